set_option maxRecDepth 100000
/-! RingDominoModel -/
def RX4 : String := "RingDominoModel"
def TX4 : u_T := fun k => match k with
  | 0 => ("RingDominoModel", "thrown", "I", false)
  | 1 => ("RingDominoModel", "tape", "[I", true)
  | 2 => ("RingDominoModel", "bytes", "I", false)
  | 3 => ("RingDominoModel", "errorAt", "I", false)
  | 4 => ("RingDominoModel", "kind", "[I", true)
  | 5 => ("RingDominoModel", "number", "[I", true)
  | 6 => ("RingDominoModel", "position", "[I", true)
  | 7 => ("RingDominoModel", "length", "[I", true)
  | 8 => ("RingDominoModel", "token", "I", false)
  | 9 => ("RingDominoModel", "isWrong", "Z", false)
  | 10 => ("RingDominoModel", "error", "I", false)
  | 11 => ("RingDominoModel", "errorToken", "I", false)
  | 12 => ("RingDominoModel", "deep", "I", false)
  | 13 => ("RingDominoModel", "named", "[I", true)
  | 14 => ("RingDominoModel", "told", "LRingDominoModel$Told;", true)
  | 15 => ("RingDominoModel", "fresh", "LRingDominoModel$Told;", true)
  | 16 => ("RingDominoModel", "value", "[I", true)
  | 17 => ("RingDominoModel", "now", "LRingDominoModel$State;", true)
  | 18 => ("RingDominoModel", "ahead", "LRingDominoModel$State;", true)
  | 19 => ("RingDominoModel", "queue", "[I", true)
  | 20 => ("RingDominoModel", "isSeen", "[Z", true)
  | 21 => ("RingDominoModel", "mostGain", "I", false)
  | 22 => ("RingDominoModel", "mostCell", "I", false)
  | _ => ("RingDominoModel", "mostTurn", "I", false)
def tyX4 : Nat → FieldType := fun k => match k with
  | 0 => .int
  | 1 => .array .int
  | 2 => .int
  | 3 => .int
  | 4 => .array .int
  | 5 => .array .int
  | 6 => .array .int
  | 7 => .array .int
  | 8 => .int
  | 9 => .boolean
  | 10 => .int
  | 11 => .int
  | 12 => .int
  | 13 => .array .int
  | 14 => .object "RingDominoModel$Told"
  | 15 => .object "RingDominoModel$Told"
  | 16 => .array .int
  | 17 => .object "RingDominoModel$State"
  | 18 => .object "RingDominoModel$State"
  | 19 => .array .int
  | 20 => .array .boolean
  | 21 => .int
  | 22 => .int
  | _ => .int
abbrev wsX40 : List Cond := u_ws RX4 TX4 24
set_option maxRecDepth 100000 in
theorem nmX4 : ∀ a, a < 24 → ∀ b, b < 24 → a ≠ b → (TX4 a).2.1 ≠ (TX4 b).2.1 := by decide +kernel
set_option maxRecDepth 100000 in
theorem tyX4_ok : ∀ k, k < 24 → parseFieldDescriptor (TX4 k).2.2.1 = some (tyX4 k) := by decide +kernel
abbrev cX4_init : ByteArray := prog_45_method_1_code
def yX4_init : MethodName := ⟨RX4, "<init>", "()V"⟩
def dkwX4_init_5 : List UInt8 := [188, 10, 181, 0, 55, 42, 16, 49, 188, 4, 181, 0, 58, 42, 180, 0, 48, 182, 0, 62, 177]
abbrev dktX4_init_5 : List UInt8 := dkwX4_init_5 ++ []
def dkwX4_init_4 : List UInt8 := [187, 0, 45, 89, 183, 0, 47, 181, 0, 48, 42, 187, 0, 45, 89, 183, 0, 47, 181, 0, 52, 42, 16, 49]
abbrev dktX4_init_4 : List UInt8 := dkwX4_init_4 ++ dktX4_init_5
def dkwX4_init_3 : List UInt8 := [181, 0, 35, 42, 187, 0, 32, 89, 183, 0, 34, 181, 0, 39, 42, 17, 3, 32, 188, 10, 181, 0, 42, 42]
abbrev dktX4_init_3 : List UInt8 := dkwX4_init_3 ++ dktX4_init_4
def dkwX4_init_2 : List UInt8 := [17, 1, 146, 188, 10, 181, 0, 26, 42, 16, 16, 188, 10, 181, 0, 29, 42, 187, 0, 32, 89, 183, 0, 34]
abbrev dktX4_init_2 : List UInt8 := dkwX4_init_2 ++ dktX4_init_3
def dkwX4_init_1 : List UInt8 := [181, 0, 17, 42, 17, 1, 146, 188, 10, 181, 0, 20, 42, 17, 1, 146, 188, 10, 181, 0, 23, 42]
abbrev dktX4_init_1 : List UInt8 := dkwX4_init_1 ++ dktX4_init_2
def dkwX4_init_0 : List UInt8 := [42, 183, 0, 1, 42, 17, 7, 208, 188, 10, 181, 0, 9, 42, 2, 181, 0, 13, 42, 17, 1, 146, 188, 10]
abbrev dktX4_init_0 : List UInt8 := dkwX4_init_0 ++ dktX4_init_1
theorem dksX4_init_0 : cX4_init.data.toList.drop 0 = dktX4_init_0 := by decide +kernel
theorem dksX4_init_1 : cX4_init.data.toList.drop 24 = dktX4_init_1 := dk_seg dksX4_init_0 24 rfl rfl
theorem dksX4_init_2 : cX4_init.data.toList.drop 46 = dktX4_init_2 := dk_seg dksX4_init_1 22 rfl rfl
theorem dksX4_init_3 : cX4_init.data.toList.drop 70 = dktX4_init_3 := dk_seg dksX4_init_2 24 rfl rfl
theorem dksX4_init_4 : cX4_init.data.toList.drop 94 = dktX4_init_4 := dk_seg dksX4_init_3 24 rfl rfl
theorem dksX4_init_5 : cX4_init.data.toList.drop 118 = dktX4_init_5 := dk_seg dksX4_init_4 24 rfl rfl
theorem dX4_init_0 : decode cX4_init 0 = .ok (.aload_n 0, 1) := dk_42 (dk_at dksX4_init_0 0 rfl rfl)
theorem dX4_init_1 : decode cX4_init 1 = .ok (.invokespecial 1, 3) := dk_183 0 1 (dk_at dksX4_init_0 1 rfl rfl)
theorem dX4_init_4 : decode cX4_init 4 = .ok (.aload_n 0, 1) := dk_42 (dk_at dksX4_init_0 4 rfl rfl)
theorem dX4_init_5 : decode cX4_init 5 = .ok (.sipush 2000, 3) := dk_17 7 208 (dk_at dksX4_init_0 5 rfl rfl)
theorem dX4_init_8 : decode cX4_init 8 = .ok (.newarray .int, 2) := dk_188_10 (dk_at dksX4_init_0 8 rfl rfl)
theorem dX4_init_10 : decode cX4_init 10 = .ok (.putfield 9, 3) := dk_181 0 9 (dk_at dksX4_init_0 10 rfl rfl)
theorem dX4_init_13 : decode cX4_init 13 = .ok (.aload_n 0, 1) := dk_42 (dk_at dksX4_init_0 13 rfl rfl)
theorem dX4_init_14 : decode cX4_init 14 = .ok (.iconst (-1), 1) := dk_2 (dk_at dksX4_init_0 14 rfl rfl)
theorem dX4_init_15 : decode cX4_init 15 = .ok (.putfield 13, 3) := dk_181 0 13 (dk_at dksX4_init_0 15 rfl rfl)
theorem dX4_init_18 : decode cX4_init 18 = .ok (.aload_n 0, 1) := dk_42 (dk_at dksX4_init_0 18 rfl rfl)
theorem dX4_init_19 : decode cX4_init 19 = .ok (.sipush 402, 3) := dk_17 1 146 (dk_at dksX4_init_0 19 rfl rfl)
theorem dX4_init_22 : decode cX4_init 22 = .ok (.newarray .int, 2) := dk_188_10 (dk_at dksX4_init_0 22 rfl rfl)
theorem dX4_init_24 : decode cX4_init 24 = .ok (.putfield 17, 3) := dk_181 0 17 (dk_at dksX4_init_1 0 rfl rfl)
theorem dX4_init_27 : decode cX4_init 27 = .ok (.aload_n 0, 1) := dk_42 (dk_at dksX4_init_1 3 rfl rfl)
theorem dX4_init_28 : decode cX4_init 28 = .ok (.sipush 402, 3) := dk_17 1 146 (dk_at dksX4_init_1 4 rfl rfl)
theorem dX4_init_31 : decode cX4_init 31 = .ok (.newarray .int, 2) := dk_188_10 (dk_at dksX4_init_1 7 rfl rfl)
theorem dX4_init_33 : decode cX4_init 33 = .ok (.putfield 20, 3) := dk_181 0 20 (dk_at dksX4_init_1 9 rfl rfl)
theorem dX4_init_36 : decode cX4_init 36 = .ok (.aload_n 0, 1) := dk_42 (dk_at dksX4_init_1 12 rfl rfl)
theorem dX4_init_37 : decode cX4_init 37 = .ok (.sipush 402, 3) := dk_17 1 146 (dk_at dksX4_init_1 13 rfl rfl)
theorem dX4_init_40 : decode cX4_init 40 = .ok (.newarray .int, 2) := dk_188_10 (dk_at dksX4_init_1 16 rfl rfl)
theorem dX4_init_42 : decode cX4_init 42 = .ok (.putfield 23, 3) := dk_181 0 23 (dk_at dksX4_init_1 18 rfl rfl)
theorem dX4_init_45 : decode cX4_init 45 = .ok (.aload_n 0, 1) := dk_42 (dk_at dksX4_init_1 21 rfl rfl)
theorem dX4_init_46 : decode cX4_init 46 = .ok (.sipush 402, 3) := dk_17 1 146 (dk_at dksX4_init_2 0 rfl rfl)
theorem dX4_init_49 : decode cX4_init 49 = .ok (.newarray .int, 2) := dk_188_10 (dk_at dksX4_init_2 3 rfl rfl)
theorem dX4_init_51 : decode cX4_init 51 = .ok (.putfield 26, 3) := dk_181 0 26 (dk_at dksX4_init_2 5 rfl rfl)
theorem dX4_init_54 : decode cX4_init 54 = .ok (.aload_n 0, 1) := dk_42 (dk_at dksX4_init_2 8 rfl rfl)
theorem dX4_init_55 : decode cX4_init 55 = .ok (.bipush 16, 2) := dk_16 16 (dk_at dksX4_init_2 9 rfl rfl)
theorem dX4_init_57 : decode cX4_init 57 = .ok (.newarray .int, 2) := dk_188_10 (dk_at dksX4_init_2 11 rfl rfl)
theorem dX4_init_59 : decode cX4_init 59 = .ok (.putfield 29, 3) := dk_181 0 29 (dk_at dksX4_init_2 13 rfl rfl)
theorem dX4_init_62 : decode cX4_init 62 = .ok (.aload_n 0, 1) := dk_42 (dk_at dksX4_init_2 16 rfl rfl)
theorem dX4_init_63 : decode cX4_init 63 = .ok (.new 32, 3) := dk_187 0 32 (dk_at dksX4_init_2 17 rfl rfl)
theorem dX4_init_66 : decode cX4_init 66 = .ok (.dup, 1) := dk_89 (dk_at dksX4_init_2 20 rfl rfl)
theorem dX4_init_67 : decode cX4_init 67 = .ok (.invokespecial 34, 3) := dk_183 0 34 (dk_at dksX4_init_2 21 rfl rfl)
theorem dX4_init_70 : decode cX4_init 70 = .ok (.putfield 35, 3) := dk_181 0 35 (dk_at dksX4_init_3 0 rfl rfl)
theorem dX4_init_73 : decode cX4_init 73 = .ok (.aload_n 0, 1) := dk_42 (dk_at dksX4_init_3 3 rfl rfl)
theorem dX4_init_74 : decode cX4_init 74 = .ok (.new 32, 3) := dk_187 0 32 (dk_at dksX4_init_3 4 rfl rfl)
theorem dX4_init_77 : decode cX4_init 77 = .ok (.dup, 1) := dk_89 (dk_at dksX4_init_3 7 rfl rfl)
theorem dX4_init_78 : decode cX4_init 78 = .ok (.invokespecial 34, 3) := dk_183 0 34 (dk_at dksX4_init_3 8 rfl rfl)
theorem dX4_init_81 : decode cX4_init 81 = .ok (.putfield 39, 3) := dk_181 0 39 (dk_at dksX4_init_3 11 rfl rfl)
theorem dX4_init_84 : decode cX4_init 84 = .ok (.aload_n 0, 1) := dk_42 (dk_at dksX4_init_3 14 rfl rfl)
theorem dX4_init_85 : decode cX4_init 85 = .ok (.sipush 800, 3) := dk_17 3 32 (dk_at dksX4_init_3 15 rfl rfl)
theorem dX4_init_88 : decode cX4_init 88 = .ok (.newarray .int, 2) := dk_188_10 (dk_at dksX4_init_3 18 rfl rfl)
theorem dX4_init_90 : decode cX4_init 90 = .ok (.putfield 42, 3) := dk_181 0 42 (dk_at dksX4_init_3 20 rfl rfl)
theorem dX4_init_93 : decode cX4_init 93 = .ok (.aload_n 0, 1) := dk_42 (dk_at dksX4_init_3 23 rfl rfl)
theorem dX4_init_94 : decode cX4_init 94 = .ok (.new 45, 3) := dk_187 0 45 (dk_at dksX4_init_4 0 rfl rfl)
theorem dX4_init_97 : decode cX4_init 97 = .ok (.dup, 1) := dk_89 (dk_at dksX4_init_4 3 rfl rfl)
theorem dX4_init_98 : decode cX4_init 98 = .ok (.invokespecial 47, 3) := dk_183 0 47 (dk_at dksX4_init_4 4 rfl rfl)
theorem dX4_init_101 : decode cX4_init 101 = .ok (.putfield 48, 3) := dk_181 0 48 (dk_at dksX4_init_4 7 rfl rfl)
theorem dX4_init_104 : decode cX4_init 104 = .ok (.aload_n 0, 1) := dk_42 (dk_at dksX4_init_4 10 rfl rfl)
theorem dX4_init_105 : decode cX4_init 105 = .ok (.new 45, 3) := dk_187 0 45 (dk_at dksX4_init_4 11 rfl rfl)
theorem dX4_init_108 : decode cX4_init 108 = .ok (.dup, 1) := dk_89 (dk_at dksX4_init_4 14 rfl rfl)
theorem dX4_init_109 : decode cX4_init 109 = .ok (.invokespecial 47, 3) := dk_183 0 47 (dk_at dksX4_init_4 15 rfl rfl)
theorem dX4_init_112 : decode cX4_init 112 = .ok (.putfield 52, 3) := dk_181 0 52 (dk_at dksX4_init_4 18 rfl rfl)
theorem dX4_init_115 : decode cX4_init 115 = .ok (.aload_n 0, 1) := dk_42 (dk_at dksX4_init_4 21 rfl rfl)
theorem dX4_init_116 : decode cX4_init 116 = .ok (.bipush 49, 2) := dk_16 49 (dk_at dksX4_init_4 22 rfl rfl)
theorem dX4_init_118 : decode cX4_init 118 = .ok (.newarray .int, 2) := dk_188_10 (dk_at dksX4_init_5 0 rfl rfl)
theorem dX4_init_120 : decode cX4_init 120 = .ok (.putfield 55, 3) := dk_181 0 55 (dk_at dksX4_init_5 2 rfl rfl)
theorem dX4_init_123 : decode cX4_init 123 = .ok (.aload_n 0, 1) := dk_42 (dk_at dksX4_init_5 5 rfl rfl)
theorem dX4_init_124 : decode cX4_init 124 = .ok (.bipush 49, 2) := dk_16 49 (dk_at dksX4_init_5 6 rfl rfl)
theorem dX4_init_126 : decode cX4_init 126 = .ok (.newarray .boolean, 2) := dk_188_4 (dk_at dksX4_init_5 8 rfl rfl)
theorem dX4_init_128 : decode cX4_init 128 = .ok (.putfield 58, 3) := dk_181 0 58 (dk_at dksX4_init_5 10 rfl rfl)
theorem dX4_init_131 : decode cX4_init 131 = .ok (.aload_n 0, 1) := dk_42 (dk_at dksX4_init_5 13 rfl rfl)
theorem dX4_init_132 : decode cX4_init 132 = .ok (.getfield 48, 3) := dk_180 0 48 (dk_at dksX4_init_5 14 rfl rfl)
theorem dX4_init_135 : decode cX4_init 135 = .ok (.invokevirtual 62, 3) := dk_182 0 62 (dk_at dksX4_init_5 17 rfl rfl)
theorem dX4_init_138 : decode cX4_init 138 = .ok (.return_, 1) := dk_177 (dk_at dksX4_init_5 20 rfl rfl)
abbrev cX4_thrown : ByteArray := prog_45_method_2_code
def yX4_thrown : MethodName := ⟨RX4, "thrown", "()I"⟩
theorem dX4_thrown_0 : decode cX4_thrown 0 = .ok (.aload_n 0, 1) := by decide +kernel
theorem dX4_thrown_1 : decode cX4_thrown 1 = .ok (.getfield 65, 3) := by decide +kernel
theorem dX4_thrown_4 : decode cX4_thrown 4 = .ok (.ireturn, 1) := by decide +kernel
abbrev cX4_feed : ByteArray := prog_45_method_40_code
def yX4_feed : MethodName := ⟨RX4, "feed", "(IIIII)I"⟩
def dkwX4_feed_5 : List UInt8 := [132, 9, 1, 167, 255, 196, 42, 180, 0, 72, 172]
abbrev dktX4_feed_5 : List UInt8 := dkwX4_feed_5 ++ []
def dkwX4_feed_4 : List UInt8 := [21, 11, 122, 17, 0, 255, 126, 79, 42, 89, 180, 0, 72, 4, 96, 181, 0, 72, 132, 11, 248, 167, 255, 220]
abbrev dktX4_feed_4 : List UInt8 := dkwX4_feed_4 ++ dktX4_feed_5
def dkwX4_feed_3 : List UInt8 := [21, 9, 46, 54, 10, 16, 24, 54, 11, 21, 11, 155, 0, 37, 42, 180, 0, 9, 42, 180, 0, 72, 21, 10]
abbrev dktX4_feed_3 : List UInt8 := dkwX4_feed_3 ++ dktX4_feed_4
def dkwX4_feed_2 : List UInt8 := [79, 58, 6, 25, 6, 58, 7, 25, 7, 190, 54, 8, 3, 54, 9, 21, 9, 21, 8, 162, 0, 59, 25, 7]
abbrev dktX4_feed_2 : List UInt8 := dkwX4_feed_2 ++ dktX4_feed_3
def dkwX4_feed_1 : List UInt8 := [8, 188, 10, 89, 3, 27, 79, 89, 4, 28, 79, 89, 5, 29, 79, 89, 6, 21, 4, 79, 89, 7, 21, 5]
abbrev dktX4_feed_1 : List UInt8 := dkwX4_feed_1 ++ dktX4_feed_2
def dkwX4_feed_0 : List UInt8 := [42, 3, 181, 0, 65, 42, 180, 0, 72, 16, 20, 96, 17, 7, 208, 164, 0, 9, 42, 4, 182, 0, 254, 172]
abbrev dktX4_feed_0 : List UInt8 := dkwX4_feed_0 ++ dktX4_feed_1
theorem dksX4_feed_0 : cX4_feed.data.toList.drop 0 = dktX4_feed_0 := by decide +kernel
theorem dksX4_feed_1 : cX4_feed.data.toList.drop 24 = dktX4_feed_1 := dk_seg dksX4_feed_0 24 rfl rfl
theorem dksX4_feed_2 : cX4_feed.data.toList.drop 48 = dktX4_feed_2 := dk_seg dksX4_feed_1 24 rfl rfl
theorem dksX4_feed_3 : cX4_feed.data.toList.drop 72 = dktX4_feed_3 := dk_seg dksX4_feed_2 24 rfl rfl
theorem dksX4_feed_4 : cX4_feed.data.toList.drop 96 = dktX4_feed_4 := dk_seg dksX4_feed_3 24 rfl rfl
theorem dksX4_feed_5 : cX4_feed.data.toList.drop 120 = dktX4_feed_5 := dk_seg dksX4_feed_4 24 rfl rfl
theorem dX4_feed_0 : decode cX4_feed 0 = .ok (.aload_n 0, 1) := dk_42 (dk_at dksX4_feed_0 0 rfl rfl)
theorem dX4_feed_1 : decode cX4_feed 1 = .ok (.iconst 0, 1) := dk_3 (dk_at dksX4_feed_0 1 rfl rfl)
theorem dX4_feed_2 : decode cX4_feed 2 = .ok (.putfield 65, 3) := dk_181 0 65 (dk_at dksX4_feed_0 2 rfl rfl)
theorem dX4_feed_5 : decode cX4_feed 5 = .ok (.aload_n 0, 1) := dk_42 (dk_at dksX4_feed_0 5 rfl rfl)
theorem dX4_feed_6 : decode cX4_feed 6 = .ok (.getfield 72, 3) := dk_180 0 72 (dk_at dksX4_feed_0 6 rfl rfl)
theorem dX4_feed_9 : decode cX4_feed 9 = .ok (.bipush 20, 2) := dk_16 20 (dk_at dksX4_feed_0 9 rfl rfl)
theorem dX4_feed_11 : decode cX4_feed 11 = .ok (.iadd, 1) := dk_96 (dk_at dksX4_feed_0 11 rfl rfl)
theorem dX4_feed_12 : decode cX4_feed 12 = .ok (.sipush 2000, 3) := dk_17 7 208 (dk_at dksX4_feed_0 12 rfl rfl)
theorem dX4_feed_15 : decode cX4_feed 15 = .ok (.if_icmp .le 9, 3) := dk_164 0 9 (dk_at dksX4_feed_0 15 rfl rfl)
theorem dX4_feed_18 : decode cX4_feed 18 = .ok (.aload_n 0, 1) := dk_42 (dk_at dksX4_feed_0 18 rfl rfl)
theorem dX4_feed_19 : decode cX4_feed 19 = .ok (.iconst 1, 1) := dk_4 (dk_at dksX4_feed_0 19 rfl rfl)
theorem dX4_feed_20 : decode cX4_feed 20 = .ok (.invokevirtual 254, 3) := dk_182 0 254 (dk_at dksX4_feed_0 20 rfl rfl)
theorem dX4_feed_23 : decode cX4_feed 23 = .ok (.ireturn, 1) := dk_172 (dk_at dksX4_feed_0 23 rfl rfl)
theorem dX4_feed_24 : decode cX4_feed 24 = .ok (.iconst 5, 1) := dk_8 (dk_at dksX4_feed_1 0 rfl rfl)
theorem dX4_feed_25 : decode cX4_feed 25 = .ok (.newarray .int, 2) := dk_188_10 (dk_at dksX4_feed_1 1 rfl rfl)
theorem dX4_feed_27 : decode cX4_feed 27 = .ok (.dup, 1) := dk_89 (dk_at dksX4_feed_1 3 rfl rfl)
theorem dX4_feed_28 : decode cX4_feed 28 = .ok (.iconst 0, 1) := dk_3 (dk_at dksX4_feed_1 4 rfl rfl)
theorem dX4_feed_29 : decode cX4_feed 29 = .ok (.iload_n 1, 1) := dk_27 (dk_at dksX4_feed_1 5 rfl rfl)
theorem dX4_feed_30 : decode cX4_feed 30 = .ok (.iastore, 1) := dk_79 (dk_at dksX4_feed_1 6 rfl rfl)
theorem dX4_feed_31 : decode cX4_feed 31 = .ok (.dup, 1) := dk_89 (dk_at dksX4_feed_1 7 rfl rfl)
theorem dX4_feed_32 : decode cX4_feed 32 = .ok (.iconst 1, 1) := dk_4 (dk_at dksX4_feed_1 8 rfl rfl)
theorem dX4_feed_33 : decode cX4_feed 33 = .ok (.iload_n 2, 1) := dk_28 (dk_at dksX4_feed_1 9 rfl rfl)
theorem dX4_feed_34 : decode cX4_feed 34 = .ok (.iastore, 1) := dk_79 (dk_at dksX4_feed_1 10 rfl rfl)
theorem dX4_feed_35 : decode cX4_feed 35 = .ok (.dup, 1) := dk_89 (dk_at dksX4_feed_1 11 rfl rfl)
theorem dX4_feed_36 : decode cX4_feed 36 = .ok (.iconst 2, 1) := dk_5 (dk_at dksX4_feed_1 12 rfl rfl)
theorem dX4_feed_37 : decode cX4_feed 37 = .ok (.iload_n 3, 1) := dk_29 (dk_at dksX4_feed_1 13 rfl rfl)
theorem dX4_feed_38 : decode cX4_feed 38 = .ok (.iastore, 1) := dk_79 (dk_at dksX4_feed_1 14 rfl rfl)
theorem dX4_feed_39 : decode cX4_feed 39 = .ok (.dup, 1) := dk_89 (dk_at dksX4_feed_1 15 rfl rfl)
theorem dX4_feed_40 : decode cX4_feed 40 = .ok (.iconst 3, 1) := dk_6 (dk_at dksX4_feed_1 16 rfl rfl)
theorem dX4_feed_41 : decode cX4_feed 41 = .ok (.iload 4, 2) := dk_21 4 (dk_at dksX4_feed_1 17 rfl rfl)
theorem dX4_feed_43 : decode cX4_feed 43 = .ok (.iastore, 1) := dk_79 (dk_at dksX4_feed_1 19 rfl rfl)
theorem dX4_feed_44 : decode cX4_feed 44 = .ok (.dup, 1) := dk_89 (dk_at dksX4_feed_1 20 rfl rfl)
theorem dX4_feed_45 : decode cX4_feed 45 = .ok (.iconst 4, 1) := dk_7 (dk_at dksX4_feed_1 21 rfl rfl)
theorem dX4_feed_46 : decode cX4_feed 46 = .ok (.iload 5, 2) := dk_21 5 (dk_at dksX4_feed_1 22 rfl rfl)
theorem dX4_feed_48 : decode cX4_feed 48 = .ok (.iastore, 1) := dk_79 (dk_at dksX4_feed_2 0 rfl rfl)
theorem dX4_feed_49 : decode cX4_feed 49 = .ok (.astore 6, 2) := dk_58 6 (dk_at dksX4_feed_2 1 rfl rfl)
theorem dX4_feed_51 : decode cX4_feed 51 = .ok (.aload 6, 2) := dk_25 6 (dk_at dksX4_feed_2 3 rfl rfl)
theorem dX4_feed_53 : decode cX4_feed 53 = .ok (.astore 7, 2) := dk_58 7 (dk_at dksX4_feed_2 5 rfl rfl)
theorem dX4_feed_55 : decode cX4_feed 55 = .ok (.aload 7, 2) := dk_25 7 (dk_at dksX4_feed_2 7 rfl rfl)
theorem dX4_feed_57 : decode cX4_feed 57 = .ok (.arraylength, 1) := dk_190 (dk_at dksX4_feed_2 9 rfl rfl)
theorem dX4_feed_58 : decode cX4_feed 58 = .ok (.istore 8, 2) := dk_54 8 (dk_at dksX4_feed_2 10 rfl rfl)
theorem dX4_feed_60 : decode cX4_feed 60 = .ok (.iconst 0, 1) := dk_3 (dk_at dksX4_feed_2 12 rfl rfl)
theorem dX4_feed_61 : decode cX4_feed 61 = .ok (.istore 9, 2) := dk_54 9 (dk_at dksX4_feed_2 13 rfl rfl)
theorem dX4_feed_63 : decode cX4_feed 63 = .ok (.iload 9, 2) := dk_21 9 (dk_at dksX4_feed_2 15 rfl rfl)
theorem dX4_feed_65 : decode cX4_feed 65 = .ok (.iload 8, 2) := dk_21 8 (dk_at dksX4_feed_2 17 rfl rfl)
theorem dX4_feed_67 : decode cX4_feed 67 = .ok (.if_icmp .ge 59, 3) := dk_162 0 59 (dk_at dksX4_feed_2 19 rfl rfl)
theorem dX4_feed_70 : decode cX4_feed 70 = .ok (.aload 7, 2) := dk_25 7 (dk_at dksX4_feed_2 22 rfl rfl)
theorem dX4_feed_72 : decode cX4_feed 72 = .ok (.iload 9, 2) := dk_21 9 (dk_at dksX4_feed_3 0 rfl rfl)
theorem dX4_feed_74 : decode cX4_feed 74 = .ok (.iaload, 1) := dk_46 (dk_at dksX4_feed_3 2 rfl rfl)
theorem dX4_feed_75 : decode cX4_feed 75 = .ok (.istore 10, 2) := dk_54 10 (dk_at dksX4_feed_3 3 rfl rfl)
theorem dX4_feed_77 : decode cX4_feed 77 = .ok (.bipush 24, 2) := dk_16 24 (dk_at dksX4_feed_3 5 rfl rfl)
theorem dX4_feed_79 : decode cX4_feed 79 = .ok (.istore 11, 2) := dk_54 11 (dk_at dksX4_feed_3 7 rfl rfl)
theorem dX4_feed_81 : decode cX4_feed 81 = .ok (.iload 11, 2) := dk_21 11 (dk_at dksX4_feed_3 9 rfl rfl)
theorem dX4_feed_83 : decode cX4_feed 83 = .ok (.ifCond .lt 37, 3) := dk_155 0 37 (dk_at dksX4_feed_3 11 rfl rfl)
theorem dX4_feed_86 : decode cX4_feed 86 = .ok (.aload_n 0, 1) := dk_42 (dk_at dksX4_feed_3 14 rfl rfl)
theorem dX4_feed_87 : decode cX4_feed 87 = .ok (.getfield 9, 3) := dk_180 0 9 (dk_at dksX4_feed_3 15 rfl rfl)
theorem dX4_feed_90 : decode cX4_feed 90 = .ok (.aload_n 0, 1) := dk_42 (dk_at dksX4_feed_3 18 rfl rfl)
theorem dX4_feed_91 : decode cX4_feed 91 = .ok (.getfield 72, 3) := dk_180 0 72 (dk_at dksX4_feed_3 19 rfl rfl)
theorem dX4_feed_94 : decode cX4_feed 94 = .ok (.iload 10, 2) := dk_21 10 (dk_at dksX4_feed_3 22 rfl rfl)
theorem dX4_feed_96 : decode cX4_feed 96 = .ok (.iload 11, 2) := dk_21 11 (dk_at dksX4_feed_4 0 rfl rfl)
theorem dX4_feed_98 : decode cX4_feed 98 = .ok (.ishr, 1) := dk_122 (dk_at dksX4_feed_4 2 rfl rfl)
theorem dX4_feed_99 : decode cX4_feed 99 = .ok (.sipush 255, 3) := dk_17 0 255 (dk_at dksX4_feed_4 3 rfl rfl)
theorem dX4_feed_102 : decode cX4_feed 102 = .ok (.iand, 1) := dk_126 (dk_at dksX4_feed_4 6 rfl rfl)
theorem dX4_feed_103 : decode cX4_feed 103 = .ok (.iastore, 1) := dk_79 (dk_at dksX4_feed_4 7 rfl rfl)
theorem dX4_feed_104 : decode cX4_feed 104 = .ok (.aload_n 0, 1) := dk_42 (dk_at dksX4_feed_4 8 rfl rfl)
theorem dX4_feed_105 : decode cX4_feed 105 = .ok (.dup, 1) := dk_89 (dk_at dksX4_feed_4 9 rfl rfl)
theorem dX4_feed_106 : decode cX4_feed 106 = .ok (.getfield 72, 3) := dk_180 0 72 (dk_at dksX4_feed_4 10 rfl rfl)
theorem dX4_feed_109 : decode cX4_feed 109 = .ok (.iconst 1, 1) := dk_4 (dk_at dksX4_feed_4 13 rfl rfl)
theorem dX4_feed_110 : decode cX4_feed 110 = .ok (.iadd, 1) := dk_96 (dk_at dksX4_feed_4 14 rfl rfl)
theorem dX4_feed_111 : decode cX4_feed 111 = .ok (.putfield 72, 3) := dk_181 0 72 (dk_at dksX4_feed_4 15 rfl rfl)
theorem dX4_feed_114 : decode cX4_feed 114 = .ok (.iinc 11 (-8), 3) := dk_132 11 248 (dk_at dksX4_feed_4 18 rfl rfl)
theorem dX4_feed_117 : decode cX4_feed 117 = .ok (.goto (-36), 3) := dk_167 255 220 (dk_at dksX4_feed_4 21 rfl rfl)
theorem dX4_feed_120 : decode cX4_feed 120 = .ok (.iinc 9 1, 3) := dk_132 9 1 (dk_at dksX4_feed_5 0 rfl rfl)
theorem dX4_feed_123 : decode cX4_feed 123 = .ok (.goto (-60), 3) := dk_167 255 196 (dk_at dksX4_feed_5 3 rfl rfl)
theorem dX4_feed_126 : decode cX4_feed 126 = .ok (.aload_n 0, 1) := dk_42 (dk_at dksX4_feed_5 6 rfl rfl)
theorem dX4_feed_127 : decode cX4_feed 127 = .ok (.getfield 72, 3) := dk_180 0 72 (dk_at dksX4_feed_5 7 rfl rfl)
theorem dX4_feed_130 : decode cX4_feed 130 = .ok (.ireturn, 1) := dk_172 (dk_at dksX4_feed_5 10 rfl rfl)
abbrev cX4_no : ByteArray := prog_45_method_3_code
def yX4_no : MethodName := ⟨RX4, "no", "(I)I"⟩
def dkwX4_no_0 : List UInt8 := [42, 27, 181, 0, 65, 3, 172]
abbrev dktX4_no_0 : List UInt8 := dkwX4_no_0 ++ []
theorem dksX4_no_0 : cX4_no.data.toList.drop 0 = dktX4_no_0 := by decide +kernel
theorem dX4_no_0 : decode cX4_no 0 = .ok (.aload_n 0, 1) := dk_42 (dk_at dksX4_no_0 0 rfl rfl)
theorem dX4_no_1 : decode cX4_no 1 = .ok (.iload_n 1, 1) := dk_27 (dk_at dksX4_no_0 1 rfl rfl)
theorem dX4_no_2 : decode cX4_no 2 = .ok (.putfield 65, 3) := dk_181 0 65 (dk_at dksX4_no_0 2 rfl rfl)
theorem dX4_no_5 : decode cX4_no 5 = .ok (.iconst 0, 1) := dk_3 (dk_at dksX4_no_0 5 rfl rfl)
theorem dX4_no_6 : decode cX4_no 6 = .ok (.ireturn, 1) := dk_172 (dk_at dksX4_no_0 6 rfl rfl)
abbrev cX4_trim : ByteArray := prog_45_method_41_code
def yX4_trim : MethodName := ⟨RX4, "trim", "(I)I"⟩
def dkwX4_trim_1 : List UInt8 := [27, 181, 0, 72, 27, 172]
abbrev dktX4_trim_1 : List UInt8 := dkwX4_trim_1 ++ []
def dkwX4_trim_0 : List UInt8 := [42, 3, 181, 0, 65, 27, 3, 42, 180, 0, 72, 184, 0, 68, 154, 0, 9, 42, 4, 182, 0, 254, 172, 42]
abbrev dktX4_trim_0 : List UInt8 := dkwX4_trim_0 ++ dktX4_trim_1
theorem dksX4_trim_0 : cX4_trim.data.toList.drop 0 = dktX4_trim_0 := by decide +kernel
theorem dksX4_trim_1 : cX4_trim.data.toList.drop 24 = dktX4_trim_1 := dk_seg dksX4_trim_0 24 rfl rfl
theorem dX4_trim_0 : decode cX4_trim 0 = .ok (.aload_n 0, 1) := dk_42 (dk_at dksX4_trim_0 0 rfl rfl)
theorem dX4_trim_1 : decode cX4_trim 1 = .ok (.iconst 0, 1) := dk_3 (dk_at dksX4_trim_0 1 rfl rfl)
theorem dX4_trim_2 : decode cX4_trim 2 = .ok (.putfield 65, 3) := dk_181 0 65 (dk_at dksX4_trim_0 2 rfl rfl)
theorem dX4_trim_5 : decode cX4_trim 5 = .ok (.iload_n 1, 1) := dk_27 (dk_at dksX4_trim_0 5 rfl rfl)
theorem dX4_trim_6 : decode cX4_trim 6 = .ok (.iconst 0, 1) := dk_3 (dk_at dksX4_trim_0 6 rfl rfl)
theorem dX4_trim_7 : decode cX4_trim 7 = .ok (.aload_n 0, 1) := dk_42 (dk_at dksX4_trim_0 7 rfl rfl)
theorem dX4_trim_8 : decode cX4_trim 8 = .ok (.getfield 72, 3) := dk_180 0 72 (dk_at dksX4_trim_0 8 rfl rfl)
theorem dX4_trim_11 : decode cX4_trim 11 = .ok (.invokestatic 68, 3) := dk_184 0 68 (dk_at dksX4_trim_0 11 rfl rfl)
theorem dX4_trim_14 : decode cX4_trim 14 = .ok (.ifCond .ne 9, 3) := dk_154 0 9 (dk_at dksX4_trim_0 14 rfl rfl)
theorem dX4_trim_17 : decode cX4_trim 17 = .ok (.aload_n 0, 1) := dk_42 (dk_at dksX4_trim_0 17 rfl rfl)
theorem dX4_trim_18 : decode cX4_trim 18 = .ok (.iconst 1, 1) := dk_4 (dk_at dksX4_trim_0 18 rfl rfl)
theorem dX4_trim_19 : decode cX4_trim 19 = .ok (.invokevirtual 254, 3) := dk_182 0 254 (dk_at dksX4_trim_0 19 rfl rfl)
theorem dX4_trim_22 : decode cX4_trim 22 = .ok (.ireturn, 1) := dk_172 (dk_at dksX4_trim_0 22 rfl rfl)
theorem dX4_trim_23 : decode cX4_trim 23 = .ok (.aload_n 0, 1) := dk_42 (dk_at dksX4_trim_0 23 rfl rfl)
theorem dX4_trim_24 : decode cX4_trim 24 = .ok (.iload_n 1, 1) := dk_27 (dk_at dksX4_trim_1 0 rfl rfl)
theorem dX4_trim_25 : decode cX4_trim 25 = .ok (.putfield 72, 3) := dk_181 0 72 (dk_at dksX4_trim_1 1 rfl rfl)
theorem dX4_trim_28 : decode cX4_trim 28 = .ok (.iload_n 1, 1) := dk_27 (dk_at dksX4_trim_1 4 rfl rfl)
theorem dX4_trim_29 : decode cX4_trim 29 = .ok (.ireturn, 1) := dk_172 (dk_at dksX4_trim_1 5 rfl rfl)
abbrev cX4_isIn : ByteArray := prog_45_method_6_code
def yX4_isIn : MethodName := ⟨RX4, "isIn", "(III)Z"⟩
def dkwX4_isIn_0 : List UInt8 := [26, 27, 161, 0, 12, 26, 28, 163, 0, 7, 4, 167, 0, 4, 3, 172]
abbrev dktX4_isIn_0 : List UInt8 := dkwX4_isIn_0 ++ []
theorem dksX4_isIn_0 : cX4_isIn.data.toList.drop 0 = dktX4_isIn_0 := by decide +kernel
theorem dX4_isIn_0 : decode cX4_isIn 0 = .ok (.iload_n 0, 1) := dk_26 (dk_at dksX4_isIn_0 0 rfl rfl)
theorem dX4_isIn_1 : decode cX4_isIn 1 = .ok (.iload_n 1, 1) := dk_27 (dk_at dksX4_isIn_0 1 rfl rfl)
theorem dX4_isIn_2 : decode cX4_isIn 2 = .ok (.if_icmp .lt 12, 3) := dk_161 0 12 (dk_at dksX4_isIn_0 2 rfl rfl)
theorem dX4_isIn_5 : decode cX4_isIn 5 = .ok (.iload_n 0, 1) := dk_26 (dk_at dksX4_isIn_0 5 rfl rfl)
theorem dX4_isIn_6 : decode cX4_isIn 6 = .ok (.iload_n 2, 1) := dk_28 (dk_at dksX4_isIn_0 6 rfl rfl)
theorem dX4_isIn_7 : decode cX4_isIn 7 = .ok (.if_icmp .gt 7, 3) := dk_163 0 7 (dk_at dksX4_isIn_0 7 rfl rfl)
theorem dX4_isIn_10 : decode cX4_isIn 10 = .ok (.iconst 1, 1) := dk_4 (dk_at dksX4_isIn_0 10 rfl rfl)
theorem dX4_isIn_11 : decode cX4_isIn 11 = .ok (.goto 4, 3) := dk_167 0 4 (dk_at dksX4_isIn_0 11 rfl rfl)
theorem dX4_isIn_14 : decode cX4_isIn 14 = .ok (.iconst 0, 1) := dk_3 (dk_at dksX4_isIn_0 14 rfl rfl)
theorem dX4_isIn_15 : decode cX4_isIn 15 = .ok (.ireturn, 1) := dk_172 (dk_at dksX4_isIn_0 15 rfl rfl)
abbrev cX4_teach : ByteArray := prog_45_method_42_code
def yX4_teach : MethodName := ⟨RX4, "teach", "()I"⟩
def dkwX4_teach_4 : List UInt8 := [180, 0, 48, 182, 0, 62, 3, 172]
abbrev dktX4_teach_4 : List UInt8 := dkwX4_teach_4 ++ []
def dkwX4_teach_3 : List UInt8 := [180, 0, 123, 153, 0, 8, 42, 180, 0, 123, 172, 42, 180, 0, 35, 42, 180, 0, 39, 182, 1, 8, 42]
abbrev dktX4_teach_3 : List UInt8 := dkwX4_teach_3 ++ dktX4_teach_4
def dkwX4_teach_2 : List UInt8 := [42, 180, 0, 123, 154, 0, 7, 2, 167, 0, 12, 42, 180, 0, 23, 42, 180, 0, 126, 46, 181, 0, 13, 42]
abbrev dktX4_teach_2 : List UInt8 := dkwX4_teach_2 ++ dktX4_teach_3
def dkwX4_teach_1 : List UInt8 := [181, 0, 135, 42, 180, 0, 39, 182, 1, 1, 42, 182, 1, 2, 42, 182, 1, 5, 42, 3, 181, 0, 72, 42]
abbrev dktX4_teach_1 : List UInt8 := dkwX4_teach_1 ++ dktX4_teach_2
def dkwX4_teach_0 : List UInt8 := [42, 3, 181, 0, 65, 42, 3, 181, 0, 120, 42, 3, 181, 0, 116, 42, 3, 181, 0, 123, 42, 3]
abbrev dktX4_teach_0 : List UInt8 := dkwX4_teach_0 ++ dktX4_teach_1
theorem dksX4_teach_0 : cX4_teach.data.toList.drop 0 = dktX4_teach_0 := by decide +kernel
theorem dksX4_teach_1 : cX4_teach.data.toList.drop 22 = dktX4_teach_1 := dk_seg dksX4_teach_0 22 rfl rfl
theorem dksX4_teach_2 : cX4_teach.data.toList.drop 46 = dktX4_teach_2 := dk_seg dksX4_teach_1 24 rfl rfl
theorem dksX4_teach_3 : cX4_teach.data.toList.drop 70 = dktX4_teach_3 := dk_seg dksX4_teach_2 24 rfl rfl
theorem dksX4_teach_4 : cX4_teach.data.toList.drop 93 = dktX4_teach_4 := dk_seg dksX4_teach_3 23 rfl rfl
theorem dX4_teach_0 : decode cX4_teach 0 = .ok (.aload_n 0, 1) := dk_42 (dk_at dksX4_teach_0 0 rfl rfl)
theorem dX4_teach_1 : decode cX4_teach 1 = .ok (.iconst 0, 1) := dk_3 (dk_at dksX4_teach_0 1 rfl rfl)
theorem dX4_teach_2 : decode cX4_teach 2 = .ok (.putfield 65, 3) := dk_181 0 65 (dk_at dksX4_teach_0 2 rfl rfl)
theorem dX4_teach_5 : decode cX4_teach 5 = .ok (.aload_n 0, 1) := dk_42 (dk_at dksX4_teach_0 5 rfl rfl)
theorem dX4_teach_6 : decode cX4_teach 6 = .ok (.iconst 0, 1) := dk_3 (dk_at dksX4_teach_0 6 rfl rfl)
theorem dX4_teach_7 : decode cX4_teach 7 = .ok (.putfield 120, 3) := dk_181 0 120 (dk_at dksX4_teach_0 7 rfl rfl)
theorem dX4_teach_10 : decode cX4_teach 10 = .ok (.aload_n 0, 1) := dk_42 (dk_at dksX4_teach_0 10 rfl rfl)
theorem dX4_teach_11 : decode cX4_teach 11 = .ok (.iconst 0, 1) := dk_3 (dk_at dksX4_teach_0 11 rfl rfl)
theorem dX4_teach_12 : decode cX4_teach 12 = .ok (.putfield 116, 3) := dk_181 0 116 (dk_at dksX4_teach_0 12 rfl rfl)
theorem dX4_teach_15 : decode cX4_teach 15 = .ok (.aload_n 0, 1) := dk_42 (dk_at dksX4_teach_0 15 rfl rfl)
theorem dX4_teach_16 : decode cX4_teach 16 = .ok (.iconst 0, 1) := dk_3 (dk_at dksX4_teach_0 16 rfl rfl)
theorem dX4_teach_17 : decode cX4_teach 17 = .ok (.putfield 123, 3) := dk_181 0 123 (dk_at dksX4_teach_0 17 rfl rfl)
theorem dX4_teach_20 : decode cX4_teach 20 = .ok (.aload_n 0, 1) := dk_42 (dk_at dksX4_teach_0 20 rfl rfl)
theorem dX4_teach_21 : decode cX4_teach 21 = .ok (.iconst 0, 1) := dk_3 (dk_at dksX4_teach_0 21 rfl rfl)
theorem dX4_teach_22 : decode cX4_teach 22 = .ok (.putfield 135, 3) := dk_181 0 135 (dk_at dksX4_teach_1 0 rfl rfl)
theorem dX4_teach_25 : decode cX4_teach 25 = .ok (.aload_n 0, 1) := dk_42 (dk_at dksX4_teach_1 3 rfl rfl)
theorem dX4_teach_26 : decode cX4_teach 26 = .ok (.getfield 39, 3) := dk_180 0 39 (dk_at dksX4_teach_1 4 rfl rfl)
theorem dX4_teach_29 : decode cX4_teach 29 = .ok (.invokevirtual 257, 3) := dk_182 1 1 (dk_at dksX4_teach_1 7 rfl rfl)
theorem dX4_teach_32 : decode cX4_teach 32 = .ok (.aload_n 0, 1) := dk_42 (dk_at dksX4_teach_1 10 rfl rfl)
theorem dX4_teach_33 : decode cX4_teach 33 = .ok (.invokevirtual 258, 3) := dk_182 1 2 (dk_at dksX4_teach_1 11 rfl rfl)
theorem dX4_teach_36 : decode cX4_teach 36 = .ok (.aload_n 0, 1) := dk_42 (dk_at dksX4_teach_1 14 rfl rfl)
theorem dX4_teach_37 : decode cX4_teach 37 = .ok (.invokevirtual 261, 3) := dk_182 1 5 (dk_at dksX4_teach_1 15 rfl rfl)
theorem dX4_teach_40 : decode cX4_teach 40 = .ok (.aload_n 0, 1) := dk_42 (dk_at dksX4_teach_1 18 rfl rfl)
theorem dX4_teach_41 : decode cX4_teach 41 = .ok (.iconst 0, 1) := dk_3 (dk_at dksX4_teach_1 19 rfl rfl)
theorem dX4_teach_42 : decode cX4_teach 42 = .ok (.putfield 72, 3) := dk_181 0 72 (dk_at dksX4_teach_1 20 rfl rfl)
theorem dX4_teach_45 : decode cX4_teach 45 = .ok (.aload_n 0, 1) := dk_42 (dk_at dksX4_teach_1 23 rfl rfl)
theorem dX4_teach_46 : decode cX4_teach 46 = .ok (.aload_n 0, 1) := dk_42 (dk_at dksX4_teach_2 0 rfl rfl)
theorem dX4_teach_47 : decode cX4_teach 47 = .ok (.getfield 123, 3) := dk_180 0 123 (dk_at dksX4_teach_2 1 rfl rfl)
theorem dX4_teach_50 : decode cX4_teach 50 = .ok (.ifCond .ne 7, 3) := dk_154 0 7 (dk_at dksX4_teach_2 4 rfl rfl)
theorem dX4_teach_53 : decode cX4_teach 53 = .ok (.iconst (-1), 1) := dk_2 (dk_at dksX4_teach_2 7 rfl rfl)
theorem dX4_teach_54 : decode cX4_teach 54 = .ok (.goto 12, 3) := dk_167 0 12 (dk_at dksX4_teach_2 8 rfl rfl)
theorem dX4_teach_57 : decode cX4_teach 57 = .ok (.aload_n 0, 1) := dk_42 (dk_at dksX4_teach_2 11 rfl rfl)
theorem dX4_teach_58 : decode cX4_teach 58 = .ok (.getfield 23, 3) := dk_180 0 23 (dk_at dksX4_teach_2 12 rfl rfl)
theorem dX4_teach_61 : decode cX4_teach 61 = .ok (.aload_n 0, 1) := dk_42 (dk_at dksX4_teach_2 15 rfl rfl)
theorem dX4_teach_62 : decode cX4_teach 62 = .ok (.getfield 126, 3) := dk_180 0 126 (dk_at dksX4_teach_2 16 rfl rfl)
theorem dX4_teach_65 : decode cX4_teach 65 = .ok (.iaload, 1) := dk_46 (dk_at dksX4_teach_2 19 rfl rfl)
theorem dX4_teach_66 : decode cX4_teach 66 = .ok (.putfield 13, 3) := dk_181 0 13 (dk_at dksX4_teach_2 20 rfl rfl)
theorem dX4_teach_69 : decode cX4_teach 69 = .ok (.aload_n 0, 1) := dk_42 (dk_at dksX4_teach_2 23 rfl rfl)
theorem dX4_teach_70 : decode cX4_teach 70 = .ok (.getfield 123, 3) := dk_180 0 123 (dk_at dksX4_teach_3 0 rfl rfl)
theorem dX4_teach_73 : decode cX4_teach 73 = .ok (.ifCond .eq 8, 3) := dk_153 0 8 (dk_at dksX4_teach_3 3 rfl rfl)
theorem dX4_teach_76 : decode cX4_teach 76 = .ok (.aload_n 0, 1) := dk_42 (dk_at dksX4_teach_3 6 rfl rfl)
theorem dX4_teach_77 : decode cX4_teach 77 = .ok (.getfield 123, 3) := dk_180 0 123 (dk_at dksX4_teach_3 7 rfl rfl)
theorem dX4_teach_80 : decode cX4_teach 80 = .ok (.ireturn, 1) := dk_172 (dk_at dksX4_teach_3 10 rfl rfl)
theorem dX4_teach_81 : decode cX4_teach 81 = .ok (.aload_n 0, 1) := dk_42 (dk_at dksX4_teach_3 11 rfl rfl)
theorem dX4_teach_82 : decode cX4_teach 82 = .ok (.getfield 35, 3) := dk_180 0 35 (dk_at dksX4_teach_3 12 rfl rfl)
theorem dX4_teach_85 : decode cX4_teach 85 = .ok (.aload_n 0, 1) := dk_42 (dk_at dksX4_teach_3 15 rfl rfl)
theorem dX4_teach_86 : decode cX4_teach 86 = .ok (.getfield 39, 3) := dk_180 0 39 (dk_at dksX4_teach_3 16 rfl rfl)
theorem dX4_teach_89 : decode cX4_teach 89 = .ok (.invokevirtual 264, 3) := dk_182 1 8 (dk_at dksX4_teach_3 19 rfl rfl)
theorem dX4_teach_92 : decode cX4_teach 92 = .ok (.aload_n 0, 1) := dk_42 (dk_at dksX4_teach_3 22 rfl rfl)
theorem dX4_teach_93 : decode cX4_teach 93 = .ok (.getfield 48, 3) := dk_180 0 48 (dk_at dksX4_teach_4 0 rfl rfl)
theorem dX4_teach_96 : decode cX4_teach 96 = .ok (.invokevirtual 62, 3) := dk_182 0 62 (dk_at dksX4_teach_4 3 rfl rfl)
theorem dX4_teach_99 : decode cX4_teach 99 = .ok (.iconst 0, 1) := dk_3 (dk_at dksX4_teach_4 6 rfl rfl)
theorem dX4_teach_100 : decode cX4_teach 100 = .ok (.ireturn, 1) := dk_172 (dk_at dksX4_teach_4 7 rfl rfl)
abbrev cX4_readAll : ByteArray := prog_45_method_15_code
def yX4_readAll : MethodName := ⟨RX4, "readAll", "()V"⟩
def dkwX4_readAll_3 : List UInt8 := [79, 42, 180, 0, 23, 28, 42, 180, 0, 72, 79, 177]
abbrev dktX4_readAll_3 : List UInt8 := dkwX4_readAll_3 ++ []
def dkwX4_readAll_2 : List UInt8 := [160, 0, 11, 42, 180, 0, 17, 28, 16, 32, 79, 132, 2, 1, 167, 255, 202, 42, 180, 0, 17, 28, 16, 33]
abbrev dktX4_readAll_2 : List UInt8 := dkwX4_readAll_2 ++ dktX4_readAll_3
def dkwX4_readAll_1 : List UInt8 := [28, 4, 100, 46, 16, 32, 159, 0, 35, 42, 42, 27, 28, 182, 0, 113, 182, 0, 110, 60, 28, 17, 1, 144]
abbrev dktX4_readAll_1 : List UInt8 := dkwX4_readAll_1 ++ dktX4_readAll_2
def dkwX4_readAll_0 : List UInt8 := [42, 3, 182, 0, 110, 60, 3, 61, 27, 42, 180, 0, 72, 162, 0, 52, 28, 153, 0, 16, 42, 180, 0, 17]
abbrev dktX4_readAll_0 : List UInt8 := dkwX4_readAll_0 ++ dktX4_readAll_1
theorem dksX4_readAll_0 : cX4_readAll.data.toList.drop 0 = dktX4_readAll_0 := by decide +kernel
theorem dksX4_readAll_1 : cX4_readAll.data.toList.drop 24 = dktX4_readAll_1 := dk_seg dksX4_readAll_0 24 rfl rfl
theorem dksX4_readAll_2 : cX4_readAll.data.toList.drop 48 = dktX4_readAll_2 := dk_seg dksX4_readAll_1 24 rfl rfl
theorem dksX4_readAll_3 : cX4_readAll.data.toList.drop 72 = dktX4_readAll_3 := dk_seg dksX4_readAll_2 24 rfl rfl
theorem dX4_readAll_0 : decode cX4_readAll 0 = .ok (.aload_n 0, 1) := dk_42 (dk_at dksX4_readAll_0 0 rfl rfl)
theorem dX4_readAll_1 : decode cX4_readAll 1 = .ok (.iconst 0, 1) := dk_3 (dk_at dksX4_readAll_0 1 rfl rfl)
theorem dX4_readAll_2 : decode cX4_readAll 2 = .ok (.invokevirtual 110, 3) := dk_182 0 110 (dk_at dksX4_readAll_0 2 rfl rfl)
theorem dX4_readAll_5 : decode cX4_readAll 5 = .ok (.istore_n 1, 1) := dk_60 (dk_at dksX4_readAll_0 5 rfl rfl)
theorem dX4_readAll_6 : decode cX4_readAll 6 = .ok (.iconst 0, 1) := dk_3 (dk_at dksX4_readAll_0 6 rfl rfl)
theorem dX4_readAll_7 : decode cX4_readAll 7 = .ok (.istore_n 2, 1) := dk_61 (dk_at dksX4_readAll_0 7 rfl rfl)
theorem dX4_readAll_8 : decode cX4_readAll 8 = .ok (.iload_n 1, 1) := dk_27 (dk_at dksX4_readAll_0 8 rfl rfl)
theorem dX4_readAll_9 : decode cX4_readAll 9 = .ok (.aload_n 0, 1) := dk_42 (dk_at dksX4_readAll_0 9 rfl rfl)
theorem dX4_readAll_10 : decode cX4_readAll 10 = .ok (.getfield 72, 3) := dk_180 0 72 (dk_at dksX4_readAll_0 10 rfl rfl)
theorem dX4_readAll_13 : decode cX4_readAll 13 = .ok (.if_icmp .ge 52, 3) := dk_162 0 52 (dk_at dksX4_readAll_0 13 rfl rfl)
theorem dX4_readAll_16 : decode cX4_readAll 16 = .ok (.iload_n 2, 1) := dk_28 (dk_at dksX4_readAll_0 16 rfl rfl)
theorem dX4_readAll_17 : decode cX4_readAll 17 = .ok (.ifCond .eq 16, 3) := dk_153 0 16 (dk_at dksX4_readAll_0 17 rfl rfl)
theorem dX4_readAll_20 : decode cX4_readAll 20 = .ok (.aload_n 0, 1) := dk_42 (dk_at dksX4_readAll_0 20 rfl rfl)
theorem dX4_readAll_21 : decode cX4_readAll 21 = .ok (.getfield 17, 3) := dk_180 0 17 (dk_at dksX4_readAll_0 21 rfl rfl)
theorem dX4_readAll_24 : decode cX4_readAll 24 = .ok (.iload_n 2, 1) := dk_28 (dk_at dksX4_readAll_1 0 rfl rfl)
theorem dX4_readAll_25 : decode cX4_readAll 25 = .ok (.iconst 1, 1) := dk_4 (dk_at dksX4_readAll_1 1 rfl rfl)
theorem dX4_readAll_26 : decode cX4_readAll 26 = .ok (.isub, 1) := dk_100 (dk_at dksX4_readAll_1 2 rfl rfl)
theorem dX4_readAll_27 : decode cX4_readAll 27 = .ok (.iaload, 1) := dk_46 (dk_at dksX4_readAll_1 3 rfl rfl)
theorem dX4_readAll_28 : decode cX4_readAll 28 = .ok (.bipush 32, 2) := dk_16 32 (dk_at dksX4_readAll_1 4 rfl rfl)
theorem dX4_readAll_30 : decode cX4_readAll 30 = .ok (.if_icmp .eq 35, 3) := dk_159 0 35 (dk_at dksX4_readAll_1 6 rfl rfl)
theorem dX4_readAll_33 : decode cX4_readAll 33 = .ok (.aload_n 0, 1) := dk_42 (dk_at dksX4_readAll_1 9 rfl rfl)
theorem dX4_readAll_34 : decode cX4_readAll 34 = .ok (.aload_n 0, 1) := dk_42 (dk_at dksX4_readAll_1 10 rfl rfl)
theorem dX4_readAll_35 : decode cX4_readAll 35 = .ok (.iload_n 1, 1) := dk_27 (dk_at dksX4_readAll_1 11 rfl rfl)
theorem dX4_readAll_36 : decode cX4_readAll 36 = .ok (.iload_n 2, 1) := dk_28 (dk_at dksX4_readAll_1 12 rfl rfl)
theorem dX4_readAll_37 : decode cX4_readAll 37 = .ok (.invokevirtual 113, 3) := dk_182 0 113 (dk_at dksX4_readAll_1 13 rfl rfl)
theorem dX4_readAll_40 : decode cX4_readAll 40 = .ok (.invokevirtual 110, 3) := dk_182 0 110 (dk_at dksX4_readAll_1 16 rfl rfl)
theorem dX4_readAll_43 : decode cX4_readAll 43 = .ok (.istore_n 1, 1) := dk_60 (dk_at dksX4_readAll_1 19 rfl rfl)
theorem dX4_readAll_44 : decode cX4_readAll 44 = .ok (.iload_n 2, 1) := dk_28 (dk_at dksX4_readAll_1 20 rfl rfl)
theorem dX4_readAll_45 : decode cX4_readAll 45 = .ok (.sipush 400, 3) := dk_17 1 144 (dk_at dksX4_readAll_1 21 rfl rfl)
theorem dX4_readAll_48 : decode cX4_readAll 48 = .ok (.if_icmp .ne 11, 3) := dk_160 0 11 (dk_at dksX4_readAll_2 0 rfl rfl)
theorem dX4_readAll_51 : decode cX4_readAll 51 = .ok (.aload_n 0, 1) := dk_42 (dk_at dksX4_readAll_2 3 rfl rfl)
theorem dX4_readAll_52 : decode cX4_readAll 52 = .ok (.getfield 17, 3) := dk_180 0 17 (dk_at dksX4_readAll_2 4 rfl rfl)
theorem dX4_readAll_55 : decode cX4_readAll 55 = .ok (.iload_n 2, 1) := dk_28 (dk_at dksX4_readAll_2 7 rfl rfl)
theorem dX4_readAll_56 : decode cX4_readAll 56 = .ok (.bipush 32, 2) := dk_16 32 (dk_at dksX4_readAll_2 8 rfl rfl)
theorem dX4_readAll_58 : decode cX4_readAll 58 = .ok (.iastore, 1) := dk_79 (dk_at dksX4_readAll_2 10 rfl rfl)
theorem dX4_readAll_59 : decode cX4_readAll 59 = .ok (.iinc 2 1, 3) := dk_132 2 1 (dk_at dksX4_readAll_2 11 rfl rfl)
theorem dX4_readAll_62 : decode cX4_readAll 62 = .ok (.goto (-54), 3) := dk_167 255 202 (dk_at dksX4_readAll_2 14 rfl rfl)
theorem dX4_readAll_65 : decode cX4_readAll 65 = .ok (.aload_n 0, 1) := dk_42 (dk_at dksX4_readAll_2 17 rfl rfl)
theorem dX4_readAll_66 : decode cX4_readAll 66 = .ok (.getfield 17, 3) := dk_180 0 17 (dk_at dksX4_readAll_2 18 rfl rfl)
theorem dX4_readAll_69 : decode cX4_readAll 69 = .ok (.iload_n 2, 1) := dk_28 (dk_at dksX4_readAll_2 21 rfl rfl)
theorem dX4_readAll_70 : decode cX4_readAll 70 = .ok (.bipush 33, 2) := dk_16 33 (dk_at dksX4_readAll_2 22 rfl rfl)
theorem dX4_readAll_72 : decode cX4_readAll 72 = .ok (.iastore, 1) := dk_79 (dk_at dksX4_readAll_3 0 rfl rfl)
theorem dX4_readAll_73 : decode cX4_readAll 73 = .ok (.aload_n 0, 1) := dk_42 (dk_at dksX4_readAll_3 1 rfl rfl)
theorem dX4_readAll_74 : decode cX4_readAll 74 = .ok (.getfield 23, 3) := dk_180 0 23 (dk_at dksX4_readAll_3 2 rfl rfl)
theorem dX4_readAll_77 : decode cX4_readAll 77 = .ok (.iload_n 2, 1) := dk_28 (dk_at dksX4_readAll_3 5 rfl rfl)
theorem dX4_readAll_78 : decode cX4_readAll 78 = .ok (.aload_n 0, 1) := dk_42 (dk_at dksX4_readAll_3 6 rfl rfl)
theorem dX4_readAll_79 : decode cX4_readAll 79 = .ok (.getfield 72, 3) := dk_180 0 72 (dk_at dksX4_readAll_3 7 rfl rfl)
theorem dX4_readAll_82 : decode cX4_readAll 82 = .ok (.iastore, 1) := dk_79 (dk_at dksX4_readAll_3 10 rfl rfl)
theorem dX4_readAll_83 : decode cX4_readAll 83 = .ok (.return_, 1) := dk_177 (dk_at dksX4_readAll_3 11 rfl rfl)
abbrev cX4_skip : ByteArray := prog_45_method_14_code
def yX4_skip : MethodName := ⟨RX4, "skip", "(I)I"⟩
def dkwX4_skip_1 : List UInt8 := [132, 2, 1, 167, 255, 233, 28, 172]
abbrev dktX4_skip_1 : List UInt8 := dkwX4_skip_1 ++ []
def dkwX4_skip_0 : List UInt8 := [27, 61, 42, 28, 182, 0, 96, 16, 32, 159, 0, 13, 42, 28, 182, 0, 96, 16, 10, 160, 0, 9]
abbrev dktX4_skip_0 : List UInt8 := dkwX4_skip_0 ++ dktX4_skip_1
theorem dksX4_skip_0 : cX4_skip.data.toList.drop 0 = dktX4_skip_0 := by decide +kernel
theorem dksX4_skip_1 : cX4_skip.data.toList.drop 22 = dktX4_skip_1 := dk_seg dksX4_skip_0 22 rfl rfl
theorem dX4_skip_0 : decode cX4_skip 0 = .ok (.iload_n 1, 1) := dk_27 (dk_at dksX4_skip_0 0 rfl rfl)
theorem dX4_skip_1 : decode cX4_skip 1 = .ok (.istore_n 2, 1) := dk_61 (dk_at dksX4_skip_0 1 rfl rfl)
theorem dX4_skip_2 : decode cX4_skip 2 = .ok (.aload_n 0, 1) := dk_42 (dk_at dksX4_skip_0 2 rfl rfl)
theorem dX4_skip_3 : decode cX4_skip 3 = .ok (.iload_n 2, 1) := dk_28 (dk_at dksX4_skip_0 3 rfl rfl)
theorem dX4_skip_4 : decode cX4_skip 4 = .ok (.invokevirtual 96, 3) := dk_182 0 96 (dk_at dksX4_skip_0 4 rfl rfl)
theorem dX4_skip_7 : decode cX4_skip 7 = .ok (.bipush 32, 2) := dk_16 32 (dk_at dksX4_skip_0 7 rfl rfl)
theorem dX4_skip_9 : decode cX4_skip 9 = .ok (.if_icmp .eq 13, 3) := dk_159 0 13 (dk_at dksX4_skip_0 9 rfl rfl)
theorem dX4_skip_12 : decode cX4_skip 12 = .ok (.aload_n 0, 1) := dk_42 (dk_at dksX4_skip_0 12 rfl rfl)
theorem dX4_skip_13 : decode cX4_skip 13 = .ok (.iload_n 2, 1) := dk_28 (dk_at dksX4_skip_0 13 rfl rfl)
theorem dX4_skip_14 : decode cX4_skip 14 = .ok (.invokevirtual 96, 3) := dk_182 0 96 (dk_at dksX4_skip_0 14 rfl rfl)
theorem dX4_skip_17 : decode cX4_skip 17 = .ok (.bipush 10, 2) := dk_16 10 (dk_at dksX4_skip_0 17 rfl rfl)
theorem dX4_skip_19 : decode cX4_skip 19 = .ok (.if_icmp .ne 9, 3) := dk_160 0 9 (dk_at dksX4_skip_0 19 rfl rfl)
theorem dX4_skip_22 : decode cX4_skip 22 = .ok (.iinc 2 1, 3) := dk_132 2 1 (dk_at dksX4_skip_1 0 rfl rfl)
theorem dX4_skip_25 : decode cX4_skip 25 = .ok (.goto (-23), 3) := dk_167 255 233 (dk_at dksX4_skip_1 3 rfl rfl)
theorem dX4_skip_28 : decode cX4_skip 28 = .ok (.iload_n 2, 1) := dk_28 (dk_at dksX4_skip_1 6 rfl rfl)
theorem dX4_skip_29 : decode cX4_skip 29 = .ok (.ireturn, 1) := dk_172 (dk_at dksX4_skip_1 7 rfl rfl)
abbrev cX4_byteAt : ByteArray := prog_45_method_9_code
def yX4_byteAt : MethodName := ⟨RX4, "byteAt", "(I)I"⟩
def dkwX4_byteAt_0 : List UInt8 := [27, 42, 180, 0, 72, 162, 0, 12, 42, 180, 0, 9, 27, 46, 167, 0, 4, 2, 172]
abbrev dktX4_byteAt_0 : List UInt8 := dkwX4_byteAt_0 ++ []
theorem dksX4_byteAt_0 : cX4_byteAt.data.toList.drop 0 = dktX4_byteAt_0 := by decide +kernel
theorem dX4_byteAt_0 : decode cX4_byteAt 0 = .ok (.iload_n 1, 1) := dk_27 (dk_at dksX4_byteAt_0 0 rfl rfl)
theorem dX4_byteAt_1 : decode cX4_byteAt 1 = .ok (.aload_n 0, 1) := dk_42 (dk_at dksX4_byteAt_0 1 rfl rfl)
theorem dX4_byteAt_2 : decode cX4_byteAt 2 = .ok (.getfield 72, 3) := dk_180 0 72 (dk_at dksX4_byteAt_0 2 rfl rfl)
theorem dX4_byteAt_5 : decode cX4_byteAt 5 = .ok (.if_icmp .ge 12, 3) := dk_162 0 12 (dk_at dksX4_byteAt_0 5 rfl rfl)
theorem dX4_byteAt_8 : decode cX4_byteAt 8 = .ok (.aload_n 0, 1) := dk_42 (dk_at dksX4_byteAt_0 8 rfl rfl)
theorem dX4_byteAt_9 : decode cX4_byteAt 9 = .ok (.getfield 9, 3) := dk_180 0 9 (dk_at dksX4_byteAt_0 9 rfl rfl)
theorem dX4_byteAt_12 : decode cX4_byteAt 12 = .ok (.iload_n 1, 1) := dk_27 (dk_at dksX4_byteAt_0 12 rfl rfl)
theorem dX4_byteAt_13 : decode cX4_byteAt 13 = .ok (.iaload, 1) := dk_46 (dk_at dksX4_byteAt_0 13 rfl rfl)
theorem dX4_byteAt_14 : decode cX4_byteAt 14 = .ok (.goto 4, 3) := dk_167 0 4 (dk_at dksX4_byteAt_0 14 rfl rfl)
theorem dX4_byteAt_17 : decode cX4_byteAt 17 = .ok (.iconst (-1), 1) := dk_2 (dk_at dksX4_byteAt_0 17 rfl rfl)
theorem dX4_byteAt_18 : decode cX4_byteAt 18 = .ok (.ireturn, 1) := dk_172 (dk_at dksX4_byteAt_0 18 rfl rfl)
abbrev cX4_read : ByteArray := prog_45_method_13_code
def yX4_read : MethodName := ⟨RX4, "read", "(II)I"⟩
def dkwX4_read_10 : List UInt8 := [16, 48, 79, 132, 4, 1, 42, 180, 0, 26, 28, 21, 4, 27, 100, 79, 21, 4, 172]
abbrev dktX4_read_10 : List UInt8 := dkwX4_read_10 ++ []
def dkwX4_read_9 : List UInt8 := [160, 0, 30, 42, 180, 0, 17, 28, 42, 180, 0, 17, 28, 46, 16, 44, 160, 0, 8, 16, 47, 167, 0, 5]
abbrev dktX4_read_9 : List UInt8 := dkwX4_read_9 ++ dktX4_read_10
def dkwX4_read_8 : List UInt8 := [159, 0, 14, 42, 180, 0, 17, 28, 46, 16, 45, 160, 0, 41, 42, 21, 4, 182, 0, 96, 16, 61]
abbrev dktX4_read_8 : List UInt8 := dkwX4_read_8 ++ dktX4_read_9
def dkwX4_read_7 : List UInt8 := [16, 31, 79, 167, 0, 73, 42, 180, 0, 17, 28, 29, 184, 0, 107, 79, 42, 180, 0, 17, 28, 46, 16, 44]
abbrev dktX4_read_7 : List UInt8 := dkwX4_read_7 ++ dktX4_read_8
def dkwX4_read_6 : List UInt8 := [28, 21, 5, 79, 42, 180, 0, 17, 28, 21, 4, 27, 100, 16, 6, 164, 0, 8, 16, 32, 167, 0, 5]
abbrev dktX4_read_6 : List UInt8 := dkwX4_read_6 ++ dktX4_read_7
def dkwX4_read_5 : List UInt8 := [182, 0, 96, 96, 16, 48, 100, 167, 0, 5, 21, 5, 54, 5, 132, 4, 1, 167, 255, 210, 42, 180, 0, 20]
abbrev dktX4_read_5 : List UInt8 := dkwX4_read_5 ++ dktX4_read_6
def dkwX4_read_4 : List UInt8 := [184, 0, 100, 153, 0, 40, 21, 4, 27, 100, 16, 7, 162, 0, 21, 16, 10, 21, 5, 104, 42, 21, 4]
abbrev dktX4_read_4 : List UInt8 := dkwX4_read_4 ++ dktX4_read_5
def dkwX4_read_3 : List UInt8 := [167, 0, 168, 29, 184, 0, 100, 153, 0, 91, 29, 16, 48, 100, 54, 5, 42, 21, 4, 182, 0, 96]
abbrev dktX4_read_3 : List UInt8 := dkwX4_read_3 ++ dktX4_read_4
def dkwX4_read_2 : List UInt8 := [153, 0, 9, 132, 4, 1, 167, 255, 229, 42, 180, 0, 17, 28, 42, 27, 21, 4, 27, 100, 182, 0, 103, 79]
abbrev dktX4_read_2 : List UInt8 := dkwX4_read_2 ++ dktX4_read_3
def dkwX4_read_1 : List UInt8 := [153, 0, 51, 42, 21, 4, 182, 0, 96, 184, 0, 92, 154, 0, 15, 42, 21, 4, 182, 0, 96, 184, 0, 100]
abbrev dktX4_read_1 : List UInt8 := dkwX4_read_1 ++ dktX4_read_2
def dkwX4_read_0 : List UInt8 := [42, 180, 0, 9, 27, 46, 62, 27, 4, 96, 54, 4, 42, 180, 0, 23, 28, 27, 79, 29, 184, 0, 92]
abbrev dktX4_read_0 : List UInt8 := dkwX4_read_0 ++ dktX4_read_1
theorem dksX4_read_0 : cX4_read.data.toList.drop 0 = dktX4_read_0 := by decide +kernel
theorem dksX4_read_1 : cX4_read.data.toList.drop 23 = dktX4_read_1 := dk_seg dksX4_read_0 23 rfl rfl
theorem dksX4_read_2 : cX4_read.data.toList.drop 47 = dktX4_read_2 := dk_seg dksX4_read_1 24 rfl rfl
theorem dksX4_read_3 : cX4_read.data.toList.drop 71 = dktX4_read_3 := dk_seg dksX4_read_2 24 rfl rfl
theorem dksX4_read_4 : cX4_read.data.toList.drop 93 = dktX4_read_4 := dk_seg dksX4_read_3 22 rfl rfl
theorem dksX4_read_5 : cX4_read.data.toList.drop 116 = dktX4_read_5 := dk_seg dksX4_read_4 23 rfl rfl
theorem dksX4_read_6 : cX4_read.data.toList.drop 140 = dktX4_read_6 := dk_seg dksX4_read_5 24 rfl rfl
theorem dksX4_read_7 : cX4_read.data.toList.drop 163 = dktX4_read_7 := dk_seg dksX4_read_6 23 rfl rfl
theorem dksX4_read_8 : cX4_read.data.toList.drop 187 = dktX4_read_8 := dk_seg dksX4_read_7 24 rfl rfl
theorem dksX4_read_9 : cX4_read.data.toList.drop 209 = dktX4_read_9 := dk_seg dksX4_read_8 22 rfl rfl
theorem dksX4_read_10 : cX4_read.data.toList.drop 233 = dktX4_read_10 := dk_seg dksX4_read_9 24 rfl rfl
theorem dX4_read_0 : decode cX4_read 0 = .ok (.aload_n 0, 1) := dk_42 (dk_at dksX4_read_0 0 rfl rfl)
theorem dX4_read_1 : decode cX4_read 1 = .ok (.getfield 9, 3) := dk_180 0 9 (dk_at dksX4_read_0 1 rfl rfl)
theorem dX4_read_4 : decode cX4_read 4 = .ok (.iload_n 1, 1) := dk_27 (dk_at dksX4_read_0 4 rfl rfl)
theorem dX4_read_5 : decode cX4_read 5 = .ok (.iaload, 1) := dk_46 (dk_at dksX4_read_0 5 rfl rfl)
theorem dX4_read_6 : decode cX4_read 6 = .ok (.istore_n 3, 1) := dk_62 (dk_at dksX4_read_0 6 rfl rfl)
theorem dX4_read_7 : decode cX4_read 7 = .ok (.iload_n 1, 1) := dk_27 (dk_at dksX4_read_0 7 rfl rfl)
theorem dX4_read_8 : decode cX4_read 8 = .ok (.iconst 1, 1) := dk_4 (dk_at dksX4_read_0 8 rfl rfl)
theorem dX4_read_9 : decode cX4_read 9 = .ok (.iadd, 1) := dk_96 (dk_at dksX4_read_0 9 rfl rfl)
theorem dX4_read_10 : decode cX4_read 10 = .ok (.istore 4, 2) := dk_54 4 (dk_at dksX4_read_0 10 rfl rfl)
theorem dX4_read_12 : decode cX4_read 12 = .ok (.aload_n 0, 1) := dk_42 (dk_at dksX4_read_0 12 rfl rfl)
theorem dX4_read_13 : decode cX4_read 13 = .ok (.getfield 23, 3) := dk_180 0 23 (dk_at dksX4_read_0 13 rfl rfl)
theorem dX4_read_16 : decode cX4_read 16 = .ok (.iload_n 2, 1) := dk_28 (dk_at dksX4_read_0 16 rfl rfl)
theorem dX4_read_17 : decode cX4_read 17 = .ok (.iload_n 1, 1) := dk_27 (dk_at dksX4_read_0 17 rfl rfl)
theorem dX4_read_18 : decode cX4_read 18 = .ok (.iastore, 1) := dk_79 (dk_at dksX4_read_0 18 rfl rfl)
theorem dX4_read_19 : decode cX4_read 19 = .ok (.iload_n 3, 1) := dk_29 (dk_at dksX4_read_0 19 rfl rfl)
theorem dX4_read_20 : decode cX4_read 20 = .ok (.invokestatic 92, 3) := dk_184 0 92 (dk_at dksX4_read_0 20 rfl rfl)
theorem dX4_read_23 : decode cX4_read 23 = .ok (.ifCond .eq 51, 3) := dk_153 0 51 (dk_at dksX4_read_1 0 rfl rfl)
theorem dX4_read_26 : decode cX4_read 26 = .ok (.aload_n 0, 1) := dk_42 (dk_at dksX4_read_1 3 rfl rfl)
theorem dX4_read_27 : decode cX4_read 27 = .ok (.iload 4, 2) := dk_21 4 (dk_at dksX4_read_1 4 rfl rfl)
theorem dX4_read_29 : decode cX4_read 29 = .ok (.invokevirtual 96, 3) := dk_182 0 96 (dk_at dksX4_read_1 6 rfl rfl)
theorem dX4_read_32 : decode cX4_read 32 = .ok (.invokestatic 92, 3) := dk_184 0 92 (dk_at dksX4_read_1 9 rfl rfl)
theorem dX4_read_35 : decode cX4_read 35 = .ok (.ifCond .ne 15, 3) := dk_154 0 15 (dk_at dksX4_read_1 12 rfl rfl)
theorem dX4_read_38 : decode cX4_read 38 = .ok (.aload_n 0, 1) := dk_42 (dk_at dksX4_read_1 15 rfl rfl)
theorem dX4_read_39 : decode cX4_read 39 = .ok (.iload 4, 2) := dk_21 4 (dk_at dksX4_read_1 16 rfl rfl)
theorem dX4_read_41 : decode cX4_read 41 = .ok (.invokevirtual 96, 3) := dk_182 0 96 (dk_at dksX4_read_1 18 rfl rfl)
theorem dX4_read_44 : decode cX4_read 44 = .ok (.invokestatic 100, 3) := dk_184 0 100 (dk_at dksX4_read_1 21 rfl rfl)
theorem dX4_read_47 : decode cX4_read 47 = .ok (.ifCond .eq 9, 3) := dk_153 0 9 (dk_at dksX4_read_2 0 rfl rfl)
theorem dX4_read_50 : decode cX4_read 50 = .ok (.iinc 4 1, 3) := dk_132 4 1 (dk_at dksX4_read_2 3 rfl rfl)
theorem dX4_read_53 : decode cX4_read 53 = .ok (.goto (-27), 3) := dk_167 255 229 (dk_at dksX4_read_2 6 rfl rfl)
theorem dX4_read_56 : decode cX4_read 56 = .ok (.aload_n 0, 1) := dk_42 (dk_at dksX4_read_2 9 rfl rfl)
theorem dX4_read_57 : decode cX4_read 57 = .ok (.getfield 17, 3) := dk_180 0 17 (dk_at dksX4_read_2 10 rfl rfl)
theorem dX4_read_60 : decode cX4_read 60 = .ok (.iload_n 2, 1) := dk_28 (dk_at dksX4_read_2 13 rfl rfl)
theorem dX4_read_61 : decode cX4_read 61 = .ok (.aload_n 0, 1) := dk_42 (dk_at dksX4_read_2 14 rfl rfl)
theorem dX4_read_62 : decode cX4_read 62 = .ok (.iload_n 1, 1) := dk_27 (dk_at dksX4_read_2 15 rfl rfl)
theorem dX4_read_63 : decode cX4_read 63 = .ok (.iload 4, 2) := dk_21 4 (dk_at dksX4_read_2 16 rfl rfl)
theorem dX4_read_65 : decode cX4_read 65 = .ok (.iload_n 1, 1) := dk_27 (dk_at dksX4_read_2 18 rfl rfl)
theorem dX4_read_66 : decode cX4_read 66 = .ok (.isub, 1) := dk_100 (dk_at dksX4_read_2 19 rfl rfl)
theorem dX4_read_67 : decode cX4_read 67 = .ok (.invokevirtual 103, 3) := dk_182 0 103 (dk_at dksX4_read_2 20 rfl rfl)
theorem dX4_read_70 : decode cX4_read 70 = .ok (.iastore, 1) := dk_79 (dk_at dksX4_read_2 23 rfl rfl)
theorem dX4_read_71 : decode cX4_read 71 = .ok (.goto 168, 3) := dk_167 0 168 (dk_at dksX4_read_3 0 rfl rfl)
theorem dX4_read_74 : decode cX4_read 74 = .ok (.iload_n 3, 1) := dk_29 (dk_at dksX4_read_3 3 rfl rfl)
theorem dX4_read_75 : decode cX4_read 75 = .ok (.invokestatic 100, 3) := dk_184 0 100 (dk_at dksX4_read_3 4 rfl rfl)
theorem dX4_read_78 : decode cX4_read 78 = .ok (.ifCond .eq 91, 3) := dk_153 0 91 (dk_at dksX4_read_3 7 rfl rfl)
theorem dX4_read_81 : decode cX4_read 81 = .ok (.iload_n 3, 1) := dk_29 (dk_at dksX4_read_3 10 rfl rfl)
theorem dX4_read_82 : decode cX4_read 82 = .ok (.bipush 48, 2) := dk_16 48 (dk_at dksX4_read_3 11 rfl rfl)
theorem dX4_read_84 : decode cX4_read 84 = .ok (.isub, 1) := dk_100 (dk_at dksX4_read_3 13 rfl rfl)
theorem dX4_read_85 : decode cX4_read 85 = .ok (.istore 5, 2) := dk_54 5 (dk_at dksX4_read_3 14 rfl rfl)
theorem dX4_read_87 : decode cX4_read 87 = .ok (.aload_n 0, 1) := dk_42 (dk_at dksX4_read_3 16 rfl rfl)
theorem dX4_read_88 : decode cX4_read 88 = .ok (.iload 4, 2) := dk_21 4 (dk_at dksX4_read_3 17 rfl rfl)
theorem dX4_read_90 : decode cX4_read 90 = .ok (.invokevirtual 96, 3) := dk_182 0 96 (dk_at dksX4_read_3 19 rfl rfl)
theorem dX4_read_93 : decode cX4_read 93 = .ok (.invokestatic 100, 3) := dk_184 0 100 (dk_at dksX4_read_4 0 rfl rfl)
theorem dX4_read_96 : decode cX4_read 96 = .ok (.ifCond .eq 40, 3) := dk_153 0 40 (dk_at dksX4_read_4 3 rfl rfl)
theorem dX4_read_99 : decode cX4_read 99 = .ok (.iload 4, 2) := dk_21 4 (dk_at dksX4_read_4 6 rfl rfl)
theorem dX4_read_101 : decode cX4_read 101 = .ok (.iload_n 1, 1) := dk_27 (dk_at dksX4_read_4 8 rfl rfl)
theorem dX4_read_102 : decode cX4_read 102 = .ok (.isub, 1) := dk_100 (dk_at dksX4_read_4 9 rfl rfl)
theorem dX4_read_103 : decode cX4_read 103 = .ok (.bipush 7, 2) := dk_16 7 (dk_at dksX4_read_4 10 rfl rfl)
theorem dX4_read_105 : decode cX4_read 105 = .ok (.if_icmp .ge 21, 3) := dk_162 0 21 (dk_at dksX4_read_4 12 rfl rfl)
theorem dX4_read_108 : decode cX4_read 108 = .ok (.bipush 10, 2) := dk_16 10 (dk_at dksX4_read_4 15 rfl rfl)
theorem dX4_read_110 : decode cX4_read 110 = .ok (.iload 5, 2) := dk_21 5 (dk_at dksX4_read_4 17 rfl rfl)
theorem dX4_read_112 : decode cX4_read 112 = .ok (.imul, 1) := dk_104 (dk_at dksX4_read_4 19 rfl rfl)
theorem dX4_read_113 : decode cX4_read 113 = .ok (.aload_n 0, 1) := dk_42 (dk_at dksX4_read_4 20 rfl rfl)
theorem dX4_read_114 : decode cX4_read 114 = .ok (.iload 4, 2) := dk_21 4 (dk_at dksX4_read_4 21 rfl rfl)
theorem dX4_read_116 : decode cX4_read 116 = .ok (.invokevirtual 96, 3) := dk_182 0 96 (dk_at dksX4_read_5 0 rfl rfl)
theorem dX4_read_119 : decode cX4_read 119 = .ok (.iadd, 1) := dk_96 (dk_at dksX4_read_5 3 rfl rfl)
theorem dX4_read_120 : decode cX4_read 120 = .ok (.bipush 48, 2) := dk_16 48 (dk_at dksX4_read_5 4 rfl rfl)
theorem dX4_read_122 : decode cX4_read 122 = .ok (.isub, 1) := dk_100 (dk_at dksX4_read_5 6 rfl rfl)
theorem dX4_read_123 : decode cX4_read 123 = .ok (.goto 5, 3) := dk_167 0 5 (dk_at dksX4_read_5 7 rfl rfl)
theorem dX4_read_126 : decode cX4_read 126 = .ok (.iload 5, 2) := dk_21 5 (dk_at dksX4_read_5 10 rfl rfl)
theorem dX4_read_128 : decode cX4_read 128 = .ok (.istore 5, 2) := dk_54 5 (dk_at dksX4_read_5 12 rfl rfl)
theorem dX4_read_130 : decode cX4_read 130 = .ok (.iinc 4 1, 3) := dk_132 4 1 (dk_at dksX4_read_5 14 rfl rfl)
theorem dX4_read_133 : decode cX4_read 133 = .ok (.goto (-46), 3) := dk_167 255 210 (dk_at dksX4_read_5 17 rfl rfl)
theorem dX4_read_136 : decode cX4_read 136 = .ok (.aload_n 0, 1) := dk_42 (dk_at dksX4_read_5 20 rfl rfl)
theorem dX4_read_137 : decode cX4_read 137 = .ok (.getfield 20, 3) := dk_180 0 20 (dk_at dksX4_read_5 21 rfl rfl)
theorem dX4_read_140 : decode cX4_read 140 = .ok (.iload_n 2, 1) := dk_28 (dk_at dksX4_read_6 0 rfl rfl)
theorem dX4_read_141 : decode cX4_read 141 = .ok (.iload 5, 2) := dk_21 5 (dk_at dksX4_read_6 1 rfl rfl)
theorem dX4_read_143 : decode cX4_read 143 = .ok (.iastore, 1) := dk_79 (dk_at dksX4_read_6 3 rfl rfl)
theorem dX4_read_144 : decode cX4_read 144 = .ok (.aload_n 0, 1) := dk_42 (dk_at dksX4_read_6 4 rfl rfl)
theorem dX4_read_145 : decode cX4_read 145 = .ok (.getfield 17, 3) := dk_180 0 17 (dk_at dksX4_read_6 5 rfl rfl)
theorem dX4_read_148 : decode cX4_read 148 = .ok (.iload_n 2, 1) := dk_28 (dk_at dksX4_read_6 8 rfl rfl)
theorem dX4_read_149 : decode cX4_read 149 = .ok (.iload 4, 2) := dk_21 4 (dk_at dksX4_read_6 9 rfl rfl)
theorem dX4_read_151 : decode cX4_read 151 = .ok (.iload_n 1, 1) := dk_27 (dk_at dksX4_read_6 11 rfl rfl)
theorem dX4_read_152 : decode cX4_read 152 = .ok (.isub, 1) := dk_100 (dk_at dksX4_read_6 12 rfl rfl)
theorem dX4_read_153 : decode cX4_read 153 = .ok (.bipush 6, 2) := dk_16 6 (dk_at dksX4_read_6 13 rfl rfl)
theorem dX4_read_155 : decode cX4_read 155 = .ok (.if_icmp .le 8, 3) := dk_164 0 8 (dk_at dksX4_read_6 15 rfl rfl)
theorem dX4_read_158 : decode cX4_read 158 = .ok (.bipush 32, 2) := dk_16 32 (dk_at dksX4_read_6 18 rfl rfl)
theorem dX4_read_160 : decode cX4_read 160 = .ok (.goto 5, 3) := dk_167 0 5 (dk_at dksX4_read_6 20 rfl rfl)
theorem dX4_read_163 : decode cX4_read 163 = .ok (.bipush 31, 2) := dk_16 31 (dk_at dksX4_read_7 0 rfl rfl)
theorem dX4_read_165 : decode cX4_read 165 = .ok (.iastore, 1) := dk_79 (dk_at dksX4_read_7 2 rfl rfl)
theorem dX4_read_166 : decode cX4_read 166 = .ok (.goto 73, 3) := dk_167 0 73 (dk_at dksX4_read_7 3 rfl rfl)
theorem dX4_read_169 : decode cX4_read 169 = .ok (.aload_n 0, 1) := dk_42 (dk_at dksX4_read_7 6 rfl rfl)
theorem dX4_read_170 : decode cX4_read 170 = .ok (.getfield 17, 3) := dk_180 0 17 (dk_at dksX4_read_7 7 rfl rfl)
theorem dX4_read_173 : decode cX4_read 173 = .ok (.iload_n 2, 1) := dk_28 (dk_at dksX4_read_7 10 rfl rfl)
theorem dX4_read_174 : decode cX4_read 174 = .ok (.iload_n 3, 1) := dk_29 (dk_at dksX4_read_7 11 rfl rfl)
theorem dX4_read_175 : decode cX4_read 175 = .ok (.invokestatic 107, 3) := dk_184 0 107 (dk_at dksX4_read_7 12 rfl rfl)
theorem dX4_read_178 : decode cX4_read 178 = .ok (.iastore, 1) := dk_79 (dk_at dksX4_read_7 15 rfl rfl)
theorem dX4_read_179 : decode cX4_read 179 = .ok (.aload_n 0, 1) := dk_42 (dk_at dksX4_read_7 16 rfl rfl)
theorem dX4_read_180 : decode cX4_read 180 = .ok (.getfield 17, 3) := dk_180 0 17 (dk_at dksX4_read_7 17 rfl rfl)
theorem dX4_read_183 : decode cX4_read 183 = .ok (.iload_n 2, 1) := dk_28 (dk_at dksX4_read_7 20 rfl rfl)
theorem dX4_read_184 : decode cX4_read 184 = .ok (.iaload, 1) := dk_46 (dk_at dksX4_read_7 21 rfl rfl)
theorem dX4_read_185 : decode cX4_read 185 = .ok (.bipush 44, 2) := dk_16 44 (dk_at dksX4_read_7 22 rfl rfl)
theorem dX4_read_187 : decode cX4_read 187 = .ok (.if_icmp .eq 14, 3) := dk_159 0 14 (dk_at dksX4_read_8 0 rfl rfl)
theorem dX4_read_190 : decode cX4_read 190 = .ok (.aload_n 0, 1) := dk_42 (dk_at dksX4_read_8 3 rfl rfl)
theorem dX4_read_191 : decode cX4_read 191 = .ok (.getfield 17, 3) := dk_180 0 17 (dk_at dksX4_read_8 4 rfl rfl)
theorem dX4_read_194 : decode cX4_read 194 = .ok (.iload_n 2, 1) := dk_28 (dk_at dksX4_read_8 7 rfl rfl)
theorem dX4_read_195 : decode cX4_read 195 = .ok (.iaload, 1) := dk_46 (dk_at dksX4_read_8 8 rfl rfl)
theorem dX4_read_196 : decode cX4_read 196 = .ok (.bipush 45, 2) := dk_16 45 (dk_at dksX4_read_8 9 rfl rfl)
theorem dX4_read_198 : decode cX4_read 198 = .ok (.if_icmp .ne 41, 3) := dk_160 0 41 (dk_at dksX4_read_8 11 rfl rfl)
theorem dX4_read_201 : decode cX4_read 201 = .ok (.aload_n 0, 1) := dk_42 (dk_at dksX4_read_8 14 rfl rfl)
theorem dX4_read_202 : decode cX4_read 202 = .ok (.iload 4, 2) := dk_21 4 (dk_at dksX4_read_8 15 rfl rfl)
theorem dX4_read_204 : decode cX4_read 204 = .ok (.invokevirtual 96, 3) := dk_182 0 96 (dk_at dksX4_read_8 17 rfl rfl)
theorem dX4_read_207 : decode cX4_read 207 = .ok (.bipush 61, 2) := dk_16 61 (dk_at dksX4_read_8 20 rfl rfl)
theorem dX4_read_209 : decode cX4_read 209 = .ok (.if_icmp .ne 30, 3) := dk_160 0 30 (dk_at dksX4_read_9 0 rfl rfl)
theorem dX4_read_212 : decode cX4_read 212 = .ok (.aload_n 0, 1) := dk_42 (dk_at dksX4_read_9 3 rfl rfl)
theorem dX4_read_213 : decode cX4_read 213 = .ok (.getfield 17, 3) := dk_180 0 17 (dk_at dksX4_read_9 4 rfl rfl)
theorem dX4_read_216 : decode cX4_read 216 = .ok (.iload_n 2, 1) := dk_28 (dk_at dksX4_read_9 7 rfl rfl)
theorem dX4_read_217 : decode cX4_read 217 = .ok (.aload_n 0, 1) := dk_42 (dk_at dksX4_read_9 8 rfl rfl)
theorem dX4_read_218 : decode cX4_read 218 = .ok (.getfield 17, 3) := dk_180 0 17 (dk_at dksX4_read_9 9 rfl rfl)
theorem dX4_read_221 : decode cX4_read 221 = .ok (.iload_n 2, 1) := dk_28 (dk_at dksX4_read_9 12 rfl rfl)
theorem dX4_read_222 : decode cX4_read 222 = .ok (.iaload, 1) := dk_46 (dk_at dksX4_read_9 13 rfl rfl)
theorem dX4_read_223 : decode cX4_read 223 = .ok (.bipush 44, 2) := dk_16 44 (dk_at dksX4_read_9 14 rfl rfl)
theorem dX4_read_225 : decode cX4_read 225 = .ok (.if_icmp .ne 8, 3) := dk_160 0 8 (dk_at dksX4_read_9 16 rfl rfl)
theorem dX4_read_228 : decode cX4_read 228 = .ok (.bipush 47, 2) := dk_16 47 (dk_at dksX4_read_9 19 rfl rfl)
theorem dX4_read_230 : decode cX4_read 230 = .ok (.goto 5, 3) := dk_167 0 5 (dk_at dksX4_read_9 21 rfl rfl)
theorem dX4_read_233 : decode cX4_read 233 = .ok (.bipush 48, 2) := dk_16 48 (dk_at dksX4_read_10 0 rfl rfl)
theorem dX4_read_235 : decode cX4_read 235 = .ok (.iastore, 1) := dk_79 (dk_at dksX4_read_10 2 rfl rfl)
theorem dX4_read_236 : decode cX4_read 236 = .ok (.iinc 4 1, 3) := dk_132 4 1 (dk_at dksX4_read_10 3 rfl rfl)
theorem dX4_read_239 : decode cX4_read 239 = .ok (.aload_n 0, 1) := dk_42 (dk_at dksX4_read_10 6 rfl rfl)
theorem dX4_read_240 : decode cX4_read 240 = .ok (.getfield 26, 3) := dk_180 0 26 (dk_at dksX4_read_10 7 rfl rfl)
theorem dX4_read_243 : decode cX4_read 243 = .ok (.iload_n 2, 1) := dk_28 (dk_at dksX4_read_10 10 rfl rfl)
theorem dX4_read_244 : decode cX4_read 244 = .ok (.iload 4, 2) := dk_21 4 (dk_at dksX4_read_10 11 rfl rfl)
theorem dX4_read_246 : decode cX4_read 246 = .ok (.iload_n 1, 1) := dk_27 (dk_at dksX4_read_10 13 rfl rfl)
theorem dX4_read_247 : decode cX4_read 247 = .ok (.isub, 1) := dk_100 (dk_at dksX4_read_10 14 rfl rfl)
theorem dX4_read_248 : decode cX4_read 248 = .ok (.iastore, 1) := dk_79 (dk_at dksX4_read_10 15 rfl rfl)
theorem dX4_read_249 : decode cX4_read 249 = .ok (.iload 4, 2) := dk_21 4 (dk_at dksX4_read_10 16 rfl rfl)
theorem dX4_read_251 : decode cX4_read 251 = .ok (.ireturn, 1) := dk_172 (dk_at dksX4_read_10 18 rfl rfl)
abbrev cX4_isLetter : ByteArray := prog_45_method_7_code
def yX4_isLetter : MethodName := ⟨RX4, "isLetter", "(I)Z"⟩
def dkwX4_isLetter_0 : List UInt8 := [26, 16, 97, 16, 122, 184, 0, 68, 172]
abbrev dktX4_isLetter_0 : List UInt8 := dkwX4_isLetter_0 ++ []
theorem dksX4_isLetter_0 : cX4_isLetter.data.toList.drop 0 = dktX4_isLetter_0 := by decide +kernel
theorem dX4_isLetter_0 : decode cX4_isLetter 0 = .ok (.iload_n 0, 1) := dk_26 (dk_at dksX4_isLetter_0 0 rfl rfl)
theorem dX4_isLetter_1 : decode cX4_isLetter 1 = .ok (.bipush 97, 2) := dk_16 97 (dk_at dksX4_isLetter_0 1 rfl rfl)
theorem dX4_isLetter_3 : decode cX4_isLetter 3 = .ok (.bipush 122, 2) := dk_16 122 (dk_at dksX4_isLetter_0 3 rfl rfl)
theorem dX4_isLetter_5 : decode cX4_isLetter 5 = .ok (.invokestatic 68, 3) := dk_184 0 68 (dk_at dksX4_isLetter_0 5 rfl rfl)
theorem dX4_isLetter_8 : decode cX4_isLetter 8 = .ok (.ireturn, 1) := dk_172 (dk_at dksX4_isLetter_0 8 rfl rfl)
abbrev cX4_isDigit : ByteArray := prog_45_method_8_code
def yX4_isDigit : MethodName := ⟨RX4, "isDigit", "(I)Z"⟩
def dkwX4_isDigit_0 : List UInt8 := [26, 16, 48, 16, 57, 184, 0, 68, 172]
abbrev dktX4_isDigit_0 : List UInt8 := dkwX4_isDigit_0 ++ []
theorem dksX4_isDigit_0 : cX4_isDigit.data.toList.drop 0 = dktX4_isDigit_0 := by decide +kernel
theorem dX4_isDigit_0 : decode cX4_isDigit 0 = .ok (.iload_n 0, 1) := dk_26 (dk_at dksX4_isDigit_0 0 rfl rfl)
theorem dX4_isDigit_1 : decode cX4_isDigit 1 = .ok (.bipush 48, 2) := dk_16 48 (dk_at dksX4_isDigit_0 1 rfl rfl)
theorem dX4_isDigit_3 : decode cX4_isDigit 3 = .ok (.bipush 57, 2) := dk_16 57 (dk_at dksX4_isDigit_0 3 rfl rfl)
theorem dX4_isDigit_5 : decode cX4_isDigit 5 = .ok (.invokestatic 68, 3) := dk_184 0 68 (dk_at dksX4_isDigit_0 5 rfl rfl)
theorem dX4_isDigit_8 : decode cX4_isDigit 8 = .ok (.ireturn, 1) := dk_172 (dk_at dksX4_isDigit_0 8 rfl rfl)
abbrev cX4_keyword : ByteArray := prog_45_method_11_code
def yX4_keyword : MethodName := ⟨RX4, "keyword", "(II)I"⟩
def dkwX4_keyword_1 : List UInt8 := [29, 172, 132, 3, 1, 167, 255, 229, 28, 16, 10, 164, 0, 8, 16, 32, 167, 0, 5, 16, 30, 172]
abbrev dktX4_keyword_1 : List UInt8 := dkwX4_keyword_1 ++ []
def dkwX4_keyword_0 : List UInt8 := [3, 62, 29, 178, 0, 84, 190, 162, 0, 25, 42, 27, 28, 178, 0, 84, 29, 50, 182, 0, 88, 153, 0, 5]
abbrev dktX4_keyword_0 : List UInt8 := dkwX4_keyword_0 ++ dktX4_keyword_1
theorem dksX4_keyword_0 : cX4_keyword.data.toList.drop 0 = dktX4_keyword_0 := by decide +kernel
theorem dksX4_keyword_1 : cX4_keyword.data.toList.drop 24 = dktX4_keyword_1 := dk_seg dksX4_keyword_0 24 rfl rfl
theorem dX4_keyword_0 : decode cX4_keyword 0 = .ok (.iconst 0, 1) := dk_3 (dk_at dksX4_keyword_0 0 rfl rfl)
theorem dX4_keyword_1 : decode cX4_keyword 1 = .ok (.istore_n 3, 1) := dk_62 (dk_at dksX4_keyword_0 1 rfl rfl)
theorem dX4_keyword_2 : decode cX4_keyword 2 = .ok (.iload_n 3, 1) := dk_29 (dk_at dksX4_keyword_0 2 rfl rfl)
theorem dX4_keyword_3 : decode cX4_keyword 3 = .ok (.getstatic 84, 3) := dk_178 0 84 (dk_at dksX4_keyword_0 3 rfl rfl)
theorem dX4_keyword_6 : decode cX4_keyword 6 = .ok (.arraylength, 1) := dk_190 (dk_at dksX4_keyword_0 6 rfl rfl)
theorem dX4_keyword_7 : decode cX4_keyword 7 = .ok (.if_icmp .ge 25, 3) := dk_162 0 25 (dk_at dksX4_keyword_0 7 rfl rfl)
theorem dX4_keyword_10 : decode cX4_keyword 10 = .ok (.aload_n 0, 1) := dk_42 (dk_at dksX4_keyword_0 10 rfl rfl)
theorem dX4_keyword_11 : decode cX4_keyword 11 = .ok (.iload_n 1, 1) := dk_27 (dk_at dksX4_keyword_0 11 rfl rfl)
theorem dX4_keyword_12 : decode cX4_keyword 12 = .ok (.iload_n 2, 1) := dk_28 (dk_at dksX4_keyword_0 12 rfl rfl)
theorem dX4_keyword_13 : decode cX4_keyword 13 = .ok (.getstatic 84, 3) := dk_178 0 84 (dk_at dksX4_keyword_0 13 rfl rfl)
theorem dX4_keyword_16 : decode cX4_keyword 16 = .ok (.iload_n 3, 1) := dk_29 (dk_at dksX4_keyword_0 16 rfl rfl)
theorem dX4_keyword_17 : decode cX4_keyword 17 = .ok (.aaload, 1) := dk_50 (dk_at dksX4_keyword_0 17 rfl rfl)
theorem dX4_keyword_18 : decode cX4_keyword 18 = .ok (.invokevirtual 88, 3) := dk_182 0 88 (dk_at dksX4_keyword_0 18 rfl rfl)
theorem dX4_keyword_21 : decode cX4_keyword 21 = .ok (.ifCond .eq 5, 3) := dk_153 0 5 (dk_at dksX4_keyword_0 21 rfl rfl)
theorem dX4_keyword_24 : decode cX4_keyword 24 = .ok (.iload_n 3, 1) := dk_29 (dk_at dksX4_keyword_1 0 rfl rfl)
theorem dX4_keyword_25 : decode cX4_keyword 25 = .ok (.ireturn, 1) := dk_172 (dk_at dksX4_keyword_1 1 rfl rfl)
theorem dX4_keyword_26 : decode cX4_keyword 26 = .ok (.iinc 3 1, 3) := dk_132 3 1 (dk_at dksX4_keyword_1 2 rfl rfl)
theorem dX4_keyword_29 : decode cX4_keyword 29 = .ok (.goto (-27), 3) := dk_167 255 229 (dk_at dksX4_keyword_1 5 rfl rfl)
theorem dX4_keyword_32 : decode cX4_keyword 32 = .ok (.iload_n 2, 1) := dk_28 (dk_at dksX4_keyword_1 8 rfl rfl)
theorem dX4_keyword_33 : decode cX4_keyword 33 = .ok (.bipush 10, 2) := dk_16 10 (dk_at dksX4_keyword_1 9 rfl rfl)
theorem dX4_keyword_35 : decode cX4_keyword 35 = .ok (.if_icmp .le 8, 3) := dk_164 0 8 (dk_at dksX4_keyword_1 11 rfl rfl)
theorem dX4_keyword_38 : decode cX4_keyword 38 = .ok (.bipush 32, 2) := dk_16 32 (dk_at dksX4_keyword_1 14 rfl rfl)
theorem dX4_keyword_40 : decode cX4_keyword 40 = .ok (.goto 5, 3) := dk_167 0 5 (dk_at dksX4_keyword_1 16 rfl rfl)
theorem dX4_keyword_43 : decode cX4_keyword 43 = .ok (.bipush 30, 2) := dk_16 30 (dk_at dksX4_keyword_1 19 rfl rfl)
theorem dX4_keyword_45 : decode cX4_keyword 45 = .ok (.ireturn, 1) := dk_172 (dk_at dksX4_keyword_1 21 rfl rfl)
abbrev cX4_isWord : ByteArray := prog_45_method_10_code
def yX4_isWord : MethodName := ⟨RX4, "isWord", "(IILjava/lang/String;)Z"⟩
def dkwX4_isWord_2 : List UInt8 := [172]
abbrev dktX4_isWord_2 : List UInt8 := dkwX4_isWord_2 ++ []
def dkwX4_isWord_1 : List UInt8 := [182, 0, 80, 42, 180, 0, 9, 27, 21, 4, 96, 46, 159, 0, 5, 3, 172, 132, 4, 1, 167, 255, 227, 4]
abbrev dktX4_isWord_1 : List UInt8 := dkwX4_isWord_1 ++ dktX4_isWord_2
def dkwX4_isWord_0 : List UInt8 := [45, 182, 0, 75, 28, 159, 0, 5, 3, 172, 3, 54, 4, 21, 4, 28, 162, 0, 29, 45, 21, 4]
abbrev dktX4_isWord_0 : List UInt8 := dkwX4_isWord_0 ++ dktX4_isWord_1
theorem dksX4_isWord_0 : cX4_isWord.data.toList.drop 0 = dktX4_isWord_0 := by decide +kernel
theorem dksX4_isWord_1 : cX4_isWord.data.toList.drop 22 = dktX4_isWord_1 := dk_seg dksX4_isWord_0 22 rfl rfl
theorem dksX4_isWord_2 : cX4_isWord.data.toList.drop 46 = dktX4_isWord_2 := dk_seg dksX4_isWord_1 24 rfl rfl
theorem dX4_isWord_0 : decode cX4_isWord 0 = .ok (.aload_n 3, 1) := dk_45 (dk_at dksX4_isWord_0 0 rfl rfl)
theorem dX4_isWord_1 : decode cX4_isWord 1 = .ok (.invokevirtual 75, 3) := dk_182 0 75 (dk_at dksX4_isWord_0 1 rfl rfl)
theorem dX4_isWord_4 : decode cX4_isWord 4 = .ok (.iload_n 2, 1) := dk_28 (dk_at dksX4_isWord_0 4 rfl rfl)
theorem dX4_isWord_5 : decode cX4_isWord 5 = .ok (.if_icmp .eq 5, 3) := dk_159 0 5 (dk_at dksX4_isWord_0 5 rfl rfl)
theorem dX4_isWord_8 : decode cX4_isWord 8 = .ok (.iconst 0, 1) := dk_3 (dk_at dksX4_isWord_0 8 rfl rfl)
theorem dX4_isWord_9 : decode cX4_isWord 9 = .ok (.ireturn, 1) := dk_172 (dk_at dksX4_isWord_0 9 rfl rfl)
theorem dX4_isWord_10 : decode cX4_isWord 10 = .ok (.iconst 0, 1) := dk_3 (dk_at dksX4_isWord_0 10 rfl rfl)
theorem dX4_isWord_11 : decode cX4_isWord 11 = .ok (.istore 4, 2) := dk_54 4 (dk_at dksX4_isWord_0 11 rfl rfl)
theorem dX4_isWord_13 : decode cX4_isWord 13 = .ok (.iload 4, 2) := dk_21 4 (dk_at dksX4_isWord_0 13 rfl rfl)
theorem dX4_isWord_15 : decode cX4_isWord 15 = .ok (.iload_n 2, 1) := dk_28 (dk_at dksX4_isWord_0 15 rfl rfl)
theorem dX4_isWord_16 : decode cX4_isWord 16 = .ok (.if_icmp .ge 29, 3) := dk_162 0 29 (dk_at dksX4_isWord_0 16 rfl rfl)
theorem dX4_isWord_19 : decode cX4_isWord 19 = .ok (.aload_n 3, 1) := dk_45 (dk_at dksX4_isWord_0 19 rfl rfl)
theorem dX4_isWord_20 : decode cX4_isWord 20 = .ok (.iload 4, 2) := dk_21 4 (dk_at dksX4_isWord_0 20 rfl rfl)
theorem dX4_isWord_22 : decode cX4_isWord 22 = .ok (.invokevirtual 80, 3) := dk_182 0 80 (dk_at dksX4_isWord_1 0 rfl rfl)
theorem dX4_isWord_25 : decode cX4_isWord 25 = .ok (.aload_n 0, 1) := dk_42 (dk_at dksX4_isWord_1 3 rfl rfl)
theorem dX4_isWord_26 : decode cX4_isWord 26 = .ok (.getfield 9, 3) := dk_180 0 9 (dk_at dksX4_isWord_1 4 rfl rfl)
theorem dX4_isWord_29 : decode cX4_isWord 29 = .ok (.iload_n 1, 1) := dk_27 (dk_at dksX4_isWord_1 7 rfl rfl)
theorem dX4_isWord_30 : decode cX4_isWord 30 = .ok (.iload 4, 2) := dk_21 4 (dk_at dksX4_isWord_1 8 rfl rfl)
theorem dX4_isWord_32 : decode cX4_isWord 32 = .ok (.iadd, 1) := dk_96 (dk_at dksX4_isWord_1 10 rfl rfl)
theorem dX4_isWord_33 : decode cX4_isWord 33 = .ok (.iaload, 1) := dk_46 (dk_at dksX4_isWord_1 11 rfl rfl)
theorem dX4_isWord_34 : decode cX4_isWord 34 = .ok (.if_icmp .eq 5, 3) := dk_159 0 5 (dk_at dksX4_isWord_1 12 rfl rfl)
theorem dX4_isWord_37 : decode cX4_isWord 37 = .ok (.iconst 0, 1) := dk_3 (dk_at dksX4_isWord_1 15 rfl rfl)
theorem dX4_isWord_38 : decode cX4_isWord 38 = .ok (.ireturn, 1) := dk_172 (dk_at dksX4_isWord_1 16 rfl rfl)
theorem dX4_isWord_39 : decode cX4_isWord 39 = .ok (.iinc 4 1, 3) := dk_132 4 1 (dk_at dksX4_isWord_1 17 rfl rfl)
theorem dX4_isWord_42 : decode cX4_isWord 42 = .ok (.goto (-29), 3) := dk_167 255 227 (dk_at dksX4_isWord_1 20 rfl rfl)
theorem dX4_isWord_45 : decode cX4_isWord 45 = .ok (.iconst 1, 1) := dk_4 (dk_at dksX4_isWord_1 23 rfl rfl)
theorem dX4_isWord_46 : decode cX4_isWord 46 = .ok (.ireturn, 1) := dk_172 (dk_at dksX4_isWord_2 0 rfl rfl)
abbrev cX4_symbol : ByteArray := prog_45_method_12_code
def yX4_symbol : MethodName := ⟨RX4, "symbol", "(I)I"⟩
def dkwX4_symbol_3 : List UInt8 := [16, 42, 172, 16, 43, 172, 16, 44, 172, 16, 45, 172, 16, 46, 172, 16, 32, 172]
abbrev dktX4_symbol_3 : List UInt8 := dkwX4_symbol_3 ++ []
def dkwX4_symbol_2 : List UInt8 := [16, 49, 172, 16, 50, 172, 16, 51, 172, 16, 52, 172, 16, 53, 172, 16, 54, 172, 16, 40, 172, 16, 41, 172]
abbrev dktX4_symbol_2 : List UInt8 := dkwX4_symbol_2 ++ dktX4_symbol_3
def dkwX4_symbol_1 : List UInt8 := [170, 0, 0, 0, 0, 1, 14, 0, 0, 0, 40, 0, 0, 0, 93, 0, 0, 0, 231, 0, 0, 0, 234, 0, 0, 0, 255, 0, 0, 0, 249, 0, 0, 0, 246, 0, 0, 0, 252, 0, 0, 1, 14, 0, 0, 1, 2, 0, 0, 1, 14, 0, 0, 1, 14, 0, 0, 1, 14, 0, 0, 1, 14, 0, 0, 1, 14, 0, 0, 1, 14, 0, 0, 1, 14, 0, 0, 1, 14, 0, 0, 1, 14, 0, 0, 1, 14, 0, 0, 1, 14, 0, 0, 0, 243, 0, 0, 1, 5, 0, 0, 1, 11, 0, 0, 1, 8, 0, 0, 1, 14, 0, 0, 1, 14, 0, 0, 1, 14, 0, 0, 1, 14, 0, 0, 1, 14, 0, 0, 1, 14, 0, 0, 1, 14, 0, 0, 1, 14, 0, 0, 1, 14, 0, 0, 1, 14, 0, 0, 1, 14, 0, 0, 1, 14, 0, 0, 1, 14, 0, 0, 1, 14, 0, 0, 1, 14, 0, 0, 1, 14, 0, 0, 1, 14, 0, 0, 1, 14, 0, 0, 1, 14, 0, 0, 1, 14, 0, 0, 1, 14, 0, 0, 1, 14, 0, 0, 1, 14, 0, 0, 1, 14, 0, 0, 1, 14, 0, 0, 1, 14, 0, 0, 1, 14, 0, 0, 1, 14, 0, 0, 0, 237, 0, 0, 1, 14, 0, 0, 0, 240]
abbrev dktX4_symbol_1 : List UInt8 := dkwX4_symbol_1 ++ dktX4_symbol_2
def dkwX4_symbol_0 : List UInt8 := [26]
abbrev dktX4_symbol_0 : List UInt8 := dkwX4_symbol_0 ++ dktX4_symbol_1
theorem dksX4_symbol_0 : cX4_symbol.data.toList.drop 0 = dktX4_symbol_0 := by decide +kernel
theorem dksX4_symbol_1 : cX4_symbol.data.toList.drop 1 = dktX4_symbol_1 := dk_seg dksX4_symbol_0 1 rfl rfl
theorem dksX4_symbol_2 : cX4_symbol.data.toList.drop 232 = dktX4_symbol_2 := dk_seg dksX4_symbol_1 231 rfl rfl
theorem dksX4_symbol_3 : cX4_symbol.data.toList.drop 256 = dktX4_symbol_3 := dk_seg dksX4_symbol_2 24 rfl rfl
theorem dX4_symbol_0 : decode cX4_symbol 0 = .ok (.iload_n 0, 1) := dk_26 (dk_at dksX4_symbol_0 0 rfl rfl)
theorem dX4_symbol_1 : decode cX4_symbol 1 = .ok (.tableswitch 270 40 93 #[231, 234, 255, 249, 246, 252, 270, 258, 270, 270, 270, 270, 270, 270, 270, 270, 270, 270, 270, 243, 261, 267, 264, 270, 270, 270, 270, 270, 270, 270, 270, 270, 270, 270, 270, 270, 270, 270, 270, 270, 270, 270, 270, 270, 270, 270, 270, 270, 270, 270, 270, 237, 270, 240], 231) := by decide +kernel
theorem dX4_symbol_232 : decode cX4_symbol 232 = .ok (.bipush 49, 2) := dk_16 49 (dk_at dksX4_symbol_2 0 rfl rfl)
theorem dX4_symbol_234 : decode cX4_symbol 234 = .ok (.ireturn, 1) := dk_172 (dk_at dksX4_symbol_2 2 rfl rfl)
theorem dX4_symbol_235 : decode cX4_symbol 235 = .ok (.bipush 50, 2) := dk_16 50 (dk_at dksX4_symbol_2 3 rfl rfl)
theorem dX4_symbol_237 : decode cX4_symbol 237 = .ok (.ireturn, 1) := dk_172 (dk_at dksX4_symbol_2 5 rfl rfl)
theorem dX4_symbol_238 : decode cX4_symbol 238 = .ok (.bipush 51, 2) := dk_16 51 (dk_at dksX4_symbol_2 6 rfl rfl)
theorem dX4_symbol_240 : decode cX4_symbol 240 = .ok (.ireturn, 1) := dk_172 (dk_at dksX4_symbol_2 8 rfl rfl)
theorem dX4_symbol_241 : decode cX4_symbol 241 = .ok (.bipush 52, 2) := dk_16 52 (dk_at dksX4_symbol_2 9 rfl rfl)
theorem dX4_symbol_243 : decode cX4_symbol 243 = .ok (.ireturn, 1) := dk_172 (dk_at dksX4_symbol_2 11 rfl rfl)
theorem dX4_symbol_244 : decode cX4_symbol 244 = .ok (.bipush 53, 2) := dk_16 53 (dk_at dksX4_symbol_2 12 rfl rfl)
theorem dX4_symbol_246 : decode cX4_symbol 246 = .ok (.ireturn, 1) := dk_172 (dk_at dksX4_symbol_2 14 rfl rfl)
theorem dX4_symbol_247 : decode cX4_symbol 247 = .ok (.bipush 54, 2) := dk_16 54 (dk_at dksX4_symbol_2 15 rfl rfl)
theorem dX4_symbol_249 : decode cX4_symbol 249 = .ok (.ireturn, 1) := dk_172 (dk_at dksX4_symbol_2 17 rfl rfl)
theorem dX4_symbol_250 : decode cX4_symbol 250 = .ok (.bipush 40, 2) := dk_16 40 (dk_at dksX4_symbol_2 18 rfl rfl)
theorem dX4_symbol_252 : decode cX4_symbol 252 = .ok (.ireturn, 1) := dk_172 (dk_at dksX4_symbol_2 20 rfl rfl)
theorem dX4_symbol_253 : decode cX4_symbol 253 = .ok (.bipush 41, 2) := dk_16 41 (dk_at dksX4_symbol_2 21 rfl rfl)
theorem dX4_symbol_255 : decode cX4_symbol 255 = .ok (.ireturn, 1) := dk_172 (dk_at dksX4_symbol_2 23 rfl rfl)
theorem dX4_symbol_256 : decode cX4_symbol 256 = .ok (.bipush 42, 2) := dk_16 42 (dk_at dksX4_symbol_3 0 rfl rfl)
theorem dX4_symbol_258 : decode cX4_symbol 258 = .ok (.ireturn, 1) := dk_172 (dk_at dksX4_symbol_3 2 rfl rfl)
theorem dX4_symbol_259 : decode cX4_symbol 259 = .ok (.bipush 43, 2) := dk_16 43 (dk_at dksX4_symbol_3 3 rfl rfl)
theorem dX4_symbol_261 : decode cX4_symbol 261 = .ok (.ireturn, 1) := dk_172 (dk_at dksX4_symbol_3 5 rfl rfl)
theorem dX4_symbol_262 : decode cX4_symbol 262 = .ok (.bipush 44, 2) := dk_16 44 (dk_at dksX4_symbol_3 6 rfl rfl)
theorem dX4_symbol_264 : decode cX4_symbol 264 = .ok (.ireturn, 1) := dk_172 (dk_at dksX4_symbol_3 8 rfl rfl)
theorem dX4_symbol_265 : decode cX4_symbol 265 = .ok (.bipush 45, 2) := dk_16 45 (dk_at dksX4_symbol_3 9 rfl rfl)
theorem dX4_symbol_267 : decode cX4_symbol 267 = .ok (.ireturn, 1) := dk_172 (dk_at dksX4_symbol_3 11 rfl rfl)
theorem dX4_symbol_268 : decode cX4_symbol 268 = .ok (.bipush 46, 2) := dk_16 46 (dk_at dksX4_symbol_3 12 rfl rfl)
theorem dX4_symbol_270 : decode cX4_symbol 270 = .ok (.ireturn, 1) := dk_172 (dk_at dksX4_symbol_3 14 rfl rfl)
theorem dX4_symbol_271 : decode cX4_symbol 271 = .ok (.bipush 32, 2) := dk_16 32 (dk_at dksX4_symbol_3 15 rfl rfl)
theorem dX4_symbol_273 : decode cX4_symbol 273 = .ok (.ireturn, 1) := dk_172 (dk_at dksX4_symbol_3 17 rfl rfl)
abbrev cX4_game : ByteArray := prog_45_method_39_code
def yX4_game : MethodName := ⟨RX4, "game", "()V"⟩
def dkwX4_game_3 : List UInt8 := [42, 16, 53, 182, 0, 164, 167, 255, 225, 177]
abbrev dktX4_game_3 : List UInt8 := dkwX4_game_3 ++ []
def dkwX4_game_2 : List UInt8 := [180, 0, 116, 154, 0, 30, 42, 180, 0, 17, 42, 180, 0, 120, 46, 16, 33, 159, 0, 16, 42, 182, 0, 251]
abbrev dktX4_game_2 : List UInt8 := dkwX4_game_2 ++ dktX4_game_3
def dkwX4_game_1 : List UInt8 := [182, 0, 164, 42, 180, 0, 39, 42, 6, 16, 7, 182, 0, 217, 181, 0, 248, 42, 16, 53, 182, 0, 164, 42]
abbrev dktX4_game_1 : List UInt8 := dkwX4_game_1 ++ dktX4_game_2
def dkwX4_game_0 : List UInt8 := [42, 3, 182, 0, 182, 153, 0, 42, 42, 180, 0, 39, 42, 6, 16, 7, 182, 0, 217, 181, 0, 245, 42, 4]
abbrev dktX4_game_0 : List UInt8 := dkwX4_game_0 ++ dktX4_game_1
theorem dksX4_game_0 : cX4_game.data.toList.drop 0 = dktX4_game_0 := by decide +kernel
theorem dksX4_game_1 : cX4_game.data.toList.drop 24 = dktX4_game_1 := dk_seg dksX4_game_0 24 rfl rfl
theorem dksX4_game_2 : cX4_game.data.toList.drop 48 = dktX4_game_2 := dk_seg dksX4_game_1 24 rfl rfl
theorem dksX4_game_3 : cX4_game.data.toList.drop 72 = dktX4_game_3 := dk_seg dksX4_game_2 24 rfl rfl
theorem dX4_game_0 : decode cX4_game 0 = .ok (.aload_n 0, 1) := dk_42 (dk_at dksX4_game_0 0 rfl rfl)
theorem dX4_game_1 : decode cX4_game 1 = .ok (.iconst 0, 1) := dk_3 (dk_at dksX4_game_0 1 rfl rfl)
theorem dX4_game_2 : decode cX4_game 2 = .ok (.invokevirtual 182, 3) := dk_182 0 182 (dk_at dksX4_game_0 2 rfl rfl)
theorem dX4_game_5 : decode cX4_game 5 = .ok (.ifCond .eq 42, 3) := dk_153 0 42 (dk_at dksX4_game_0 5 rfl rfl)
theorem dX4_game_8 : decode cX4_game 8 = .ok (.aload_n 0, 1) := dk_42 (dk_at dksX4_game_0 8 rfl rfl)
theorem dX4_game_9 : decode cX4_game 9 = .ok (.getfield 39, 3) := dk_180 0 39 (dk_at dksX4_game_0 9 rfl rfl)
theorem dX4_game_12 : decode cX4_game 12 = .ok (.aload_n 0, 1) := dk_42 (dk_at dksX4_game_0 12 rfl rfl)
theorem dX4_game_13 : decode cX4_game 13 = .ok (.iconst 3, 1) := dk_6 (dk_at dksX4_game_0 13 rfl rfl)
theorem dX4_game_14 : decode cX4_game 14 = .ok (.bipush 7, 2) := dk_16 7 (dk_at dksX4_game_0 14 rfl rfl)
theorem dX4_game_16 : decode cX4_game 16 = .ok (.invokevirtual 217, 3) := dk_182 0 217 (dk_at dksX4_game_0 16 rfl rfl)
theorem dX4_game_19 : decode cX4_game 19 = .ok (.putfield 245, 3) := dk_181 0 245 (dk_at dksX4_game_0 19 rfl rfl)
theorem dX4_game_22 : decode cX4_game 22 = .ok (.aload_n 0, 1) := dk_42 (dk_at dksX4_game_0 22 rfl rfl)
theorem dX4_game_23 : decode cX4_game 23 = .ok (.iconst 1, 1) := dk_4 (dk_at dksX4_game_0 23 rfl rfl)
theorem dX4_game_24 : decode cX4_game 24 = .ok (.invokevirtual 164, 3) := dk_182 0 164 (dk_at dksX4_game_1 0 rfl rfl)
theorem dX4_game_27 : decode cX4_game 27 = .ok (.aload_n 0, 1) := dk_42 (dk_at dksX4_game_1 3 rfl rfl)
theorem dX4_game_28 : decode cX4_game 28 = .ok (.getfield 39, 3) := dk_180 0 39 (dk_at dksX4_game_1 4 rfl rfl)
theorem dX4_game_31 : decode cX4_game 31 = .ok (.aload_n 0, 1) := dk_42 (dk_at dksX4_game_1 7 rfl rfl)
theorem dX4_game_32 : decode cX4_game 32 = .ok (.iconst 3, 1) := dk_6 (dk_at dksX4_game_1 8 rfl rfl)
theorem dX4_game_33 : decode cX4_game 33 = .ok (.bipush 7, 2) := dk_16 7 (dk_at dksX4_game_1 9 rfl rfl)
theorem dX4_game_35 : decode cX4_game 35 = .ok (.invokevirtual 217, 3) := dk_182 0 217 (dk_at dksX4_game_1 11 rfl rfl)
theorem dX4_game_38 : decode cX4_game 38 = .ok (.putfield 248, 3) := dk_181 0 248 (dk_at dksX4_game_1 14 rfl rfl)
theorem dX4_game_41 : decode cX4_game 41 = .ok (.aload_n 0, 1) := dk_42 (dk_at dksX4_game_1 17 rfl rfl)
theorem dX4_game_42 : decode cX4_game 42 = .ok (.bipush 53, 2) := dk_16 53 (dk_at dksX4_game_1 18 rfl rfl)
theorem dX4_game_44 : decode cX4_game 44 = .ok (.invokevirtual 164, 3) := dk_182 0 164 (dk_at dksX4_game_1 20 rfl rfl)
theorem dX4_game_47 : decode cX4_game 47 = .ok (.aload_n 0, 1) := dk_42 (dk_at dksX4_game_1 23 rfl rfl)
theorem dX4_game_48 : decode cX4_game 48 = .ok (.getfield 116, 3) := dk_180 0 116 (dk_at dksX4_game_2 0 rfl rfl)
theorem dX4_game_51 : decode cX4_game 51 = .ok (.ifCond .ne 30, 3) := dk_154 0 30 (dk_at dksX4_game_2 3 rfl rfl)
theorem dX4_game_54 : decode cX4_game 54 = .ok (.aload_n 0, 1) := dk_42 (dk_at dksX4_game_2 6 rfl rfl)
theorem dX4_game_55 : decode cX4_game 55 = .ok (.getfield 17, 3) := dk_180 0 17 (dk_at dksX4_game_2 7 rfl rfl)
theorem dX4_game_58 : decode cX4_game 58 = .ok (.aload_n 0, 1) := dk_42 (dk_at dksX4_game_2 10 rfl rfl)
theorem dX4_game_59 : decode cX4_game 59 = .ok (.getfield 120, 3) := dk_180 0 120 (dk_at dksX4_game_2 11 rfl rfl)
theorem dX4_game_62 : decode cX4_game 62 = .ok (.iaload, 1) := dk_46 (dk_at dksX4_game_2 14 rfl rfl)
theorem dX4_game_63 : decode cX4_game 63 = .ok (.bipush 33, 2) := dk_16 33 (dk_at dksX4_game_2 15 rfl rfl)
theorem dX4_game_65 : decode cX4_game 65 = .ok (.if_icmp .eq 16, 3) := dk_159 0 16 (dk_at dksX4_game_2 17 rfl rfl)
theorem dX4_game_68 : decode cX4_game 68 = .ok (.aload_n 0, 1) := dk_42 (dk_at dksX4_game_2 20 rfl rfl)
theorem dX4_game_69 : decode cX4_game 69 = .ok (.invokevirtual 251, 3) := dk_182 0 251 (dk_at dksX4_game_2 21 rfl rfl)
theorem dX4_game_72 : decode cX4_game 72 = .ok (.aload_n 0, 1) := dk_42 (dk_at dksX4_game_3 0 rfl rfl)
theorem dX4_game_73 : decode cX4_game 73 = .ok (.bipush 53, 2) := dk_16 53 (dk_at dksX4_game_3 1 rfl rfl)
theorem dX4_game_75 : decode cX4_game 75 = .ok (.invokevirtual 164, 3) := dk_182 0 164 (dk_at dksX4_game_3 3 rfl rfl)
theorem dX4_game_78 : decode cX4_game 78 = .ok (.goto (-31), 3) := dk_167 255 225 (dk_at dksX4_game_3 6 rfl rfl)
theorem dX4_game_81 : decode cX4_game 81 = .ok (.return_, 1) := dk_177 (dk_at dksX4_game_3 9 rfl rfl)
abbrev cX4_takes : ByteArray := prog_45_method_19_code
def yX4_takes : MethodName := ⟨RX4, "takes", "(I)Z"⟩
def dkwX4_takes_0 : List UInt8 := [42, 27, 182, 0, 129, 154, 0, 5, 3, 172, 42, 89, 180, 0, 120, 4, 96, 181, 0, 120, 4, 172]
abbrev dktX4_takes_0 : List UInt8 := dkwX4_takes_0 ++ []
theorem dksX4_takes_0 : cX4_takes.data.toList.drop 0 = dktX4_takes_0 := by decide +kernel
theorem dX4_takes_0 : decode cX4_takes 0 = .ok (.aload_n 0, 1) := dk_42 (dk_at dksX4_takes_0 0 rfl rfl)
theorem dX4_takes_1 : decode cX4_takes 1 = .ok (.iload_n 1, 1) := dk_27 (dk_at dksX4_takes_0 1 rfl rfl)
theorem dX4_takes_2 : decode cX4_takes 2 = .ok (.invokevirtual 129, 3) := dk_182 0 129 (dk_at dksX4_takes_0 2 rfl rfl)
theorem dX4_takes_5 : decode cX4_takes 5 = .ok (.ifCond .ne 5, 3) := dk_154 0 5 (dk_at dksX4_takes_0 5 rfl rfl)
theorem dX4_takes_8 : decode cX4_takes 8 = .ok (.iconst 0, 1) := dk_3 (dk_at dksX4_takes_0 8 rfl rfl)
theorem dX4_takes_9 : decode cX4_takes 9 = .ok (.ireturn, 1) := dk_172 (dk_at dksX4_takes_0 9 rfl rfl)
theorem dX4_takes_10 : decode cX4_takes 10 = .ok (.aload_n 0, 1) := dk_42 (dk_at dksX4_takes_0 10 rfl rfl)
theorem dX4_takes_11 : decode cX4_takes 11 = .ok (.dup, 1) := dk_89 (dk_at dksX4_takes_0 11 rfl rfl)
theorem dX4_takes_12 : decode cX4_takes 12 = .ok (.getfield 120, 3) := dk_180 0 120 (dk_at dksX4_takes_0 12 rfl rfl)
theorem dX4_takes_15 : decode cX4_takes 15 = .ok (.iconst 1, 1) := dk_4 (dk_at dksX4_takes_0 15 rfl rfl)
theorem dX4_takes_16 : decode cX4_takes 16 = .ok (.iadd, 1) := dk_96 (dk_at dksX4_takes_0 16 rfl rfl)
theorem dX4_takes_17 : decode cX4_takes 17 = .ok (.putfield 120, 3) := dk_181 0 120 (dk_at dksX4_takes_0 17 rfl rfl)
theorem dX4_takes_20 : decode cX4_takes 20 = .ok (.iconst 1, 1) := dk_4 (dk_at dksX4_takes_0 20 rfl rfl)
theorem dX4_takes_21 : decode cX4_takes 21 = .ok (.ireturn, 1) := dk_172 (dk_at dksX4_takes_0 21 rfl rfl)
abbrev cX4_is : ByteArray := prog_45_method_16_code
def yX4_is : MethodName := ⟨RX4, "is", "(I)Z"⟩
def dkwX4_is_1 : List UInt8 := [3, 172]
abbrev dktX4_is_1 : List UInt8 := dkwX4_is_1 ++ []
def dkwX4_is_0 : List UInt8 := [42, 180, 0, 116, 154, 0, 20, 42, 180, 0, 17, 42, 180, 0, 120, 46, 27, 160, 0, 7, 4, 167, 0, 4]
abbrev dktX4_is_0 : List UInt8 := dkwX4_is_0 ++ dktX4_is_1
theorem dksX4_is_0 : cX4_is.data.toList.drop 0 = dktX4_is_0 := by decide +kernel
theorem dksX4_is_1 : cX4_is.data.toList.drop 24 = dktX4_is_1 := dk_seg dksX4_is_0 24 rfl rfl
theorem dX4_is_0 : decode cX4_is 0 = .ok (.aload_n 0, 1) := dk_42 (dk_at dksX4_is_0 0 rfl rfl)
theorem dX4_is_1 : decode cX4_is 1 = .ok (.getfield 116, 3) := dk_180 0 116 (dk_at dksX4_is_0 1 rfl rfl)
theorem dX4_is_4 : decode cX4_is 4 = .ok (.ifCond .ne 20, 3) := dk_154 0 20 (dk_at dksX4_is_0 4 rfl rfl)
theorem dX4_is_7 : decode cX4_is 7 = .ok (.aload_n 0, 1) := dk_42 (dk_at dksX4_is_0 7 rfl rfl)
theorem dX4_is_8 : decode cX4_is 8 = .ok (.getfield 17, 3) := dk_180 0 17 (dk_at dksX4_is_0 8 rfl rfl)
theorem dX4_is_11 : decode cX4_is 11 = .ok (.aload_n 0, 1) := dk_42 (dk_at dksX4_is_0 11 rfl rfl)
theorem dX4_is_12 : decode cX4_is 12 = .ok (.getfield 120, 3) := dk_180 0 120 (dk_at dksX4_is_0 12 rfl rfl)
theorem dX4_is_15 : decode cX4_is 15 = .ok (.iaload, 1) := dk_46 (dk_at dksX4_is_0 15 rfl rfl)
theorem dX4_is_16 : decode cX4_is 16 = .ok (.iload_n 1, 1) := dk_27 (dk_at dksX4_is_0 16 rfl rfl)
theorem dX4_is_17 : decode cX4_is 17 = .ok (.if_icmp .ne 7, 3) := dk_160 0 7 (dk_at dksX4_is_0 17 rfl rfl)
theorem dX4_is_20 : decode cX4_is 20 = .ok (.iconst 1, 1) := dk_4 (dk_at dksX4_is_0 20 rfl rfl)
theorem dX4_is_21 : decode cX4_is 21 = .ok (.goto 4, 3) := dk_167 0 4 (dk_at dksX4_is_0 21 rfl rfl)
theorem dX4_is_24 : decode cX4_is 24 = .ok (.iconst 0, 1) := dk_3 (dk_at dksX4_is_1 0 rfl rfl)
theorem dX4_is_25 : decode cX4_is 25 = .ok (.ireturn, 1) := dk_172 (dk_at dksX4_is_1 1 rfl rfl)
abbrev cX4_numberIn : ByteArray := prog_45_method_35_code
def yX4_numberIn : MethodName := ⟨RX4, "numberIn", "(II)I"⟩
def dkwX4_numberIn_1 : List UInt8 := [184, 0, 68, 154, 0, 8, 42, 8, 182, 0, 160, 42, 16, 31, 182, 0, 164, 29, 172]
abbrev dktX4_numberIn_1 : List UInt8 := dkwX4_numberIn_1 ++ []
def dkwX4_numberIn_0 : List UInt8 := [42, 180, 0, 20, 42, 180, 0, 120, 46, 62, 42, 16, 31, 182, 0, 129, 153, 0, 17, 29, 27, 28]
abbrev dktX4_numberIn_0 : List UInt8 := dkwX4_numberIn_0 ++ dktX4_numberIn_1
theorem dksX4_numberIn_0 : cX4_numberIn.data.toList.drop 0 = dktX4_numberIn_0 := by decide +kernel
theorem dksX4_numberIn_1 : cX4_numberIn.data.toList.drop 22 = dktX4_numberIn_1 := dk_seg dksX4_numberIn_0 22 rfl rfl
theorem dX4_numberIn_0 : decode cX4_numberIn 0 = .ok (.aload_n 0, 1) := dk_42 (dk_at dksX4_numberIn_0 0 rfl rfl)
theorem dX4_numberIn_1 : decode cX4_numberIn 1 = .ok (.getfield 20, 3) := dk_180 0 20 (dk_at dksX4_numberIn_0 1 rfl rfl)
theorem dX4_numberIn_4 : decode cX4_numberIn 4 = .ok (.aload_n 0, 1) := dk_42 (dk_at dksX4_numberIn_0 4 rfl rfl)
theorem dX4_numberIn_5 : decode cX4_numberIn 5 = .ok (.getfield 120, 3) := dk_180 0 120 (dk_at dksX4_numberIn_0 5 rfl rfl)
theorem dX4_numberIn_8 : decode cX4_numberIn 8 = .ok (.iaload, 1) := dk_46 (dk_at dksX4_numberIn_0 8 rfl rfl)
theorem dX4_numberIn_9 : decode cX4_numberIn 9 = .ok (.istore_n 3, 1) := dk_62 (dk_at dksX4_numberIn_0 9 rfl rfl)
theorem dX4_numberIn_10 : decode cX4_numberIn 10 = .ok (.aload_n 0, 1) := dk_42 (dk_at dksX4_numberIn_0 10 rfl rfl)
theorem dX4_numberIn_11 : decode cX4_numberIn 11 = .ok (.bipush 31, 2) := dk_16 31 (dk_at dksX4_numberIn_0 11 rfl rfl)
theorem dX4_numberIn_13 : decode cX4_numberIn 13 = .ok (.invokevirtual 129, 3) := dk_182 0 129 (dk_at dksX4_numberIn_0 13 rfl rfl)
theorem dX4_numberIn_16 : decode cX4_numberIn 16 = .ok (.ifCond .eq 17, 3) := dk_153 0 17 (dk_at dksX4_numberIn_0 16 rfl rfl)
theorem dX4_numberIn_19 : decode cX4_numberIn 19 = .ok (.iload_n 3, 1) := dk_29 (dk_at dksX4_numberIn_0 19 rfl rfl)
theorem dX4_numberIn_20 : decode cX4_numberIn 20 = .ok (.iload_n 1, 1) := dk_27 (dk_at dksX4_numberIn_0 20 rfl rfl)
theorem dX4_numberIn_21 : decode cX4_numberIn 21 = .ok (.iload_n 2, 1) := dk_28 (dk_at dksX4_numberIn_0 21 rfl rfl)
theorem dX4_numberIn_22 : decode cX4_numberIn 22 = .ok (.invokestatic 68, 3) := dk_184 0 68 (dk_at dksX4_numberIn_1 0 rfl rfl)
theorem dX4_numberIn_25 : decode cX4_numberIn 25 = .ok (.ifCond .ne 8, 3) := dk_154 0 8 (dk_at dksX4_numberIn_1 3 rfl rfl)
theorem dX4_numberIn_28 : decode cX4_numberIn 28 = .ok (.aload_n 0, 1) := dk_42 (dk_at dksX4_numberIn_1 6 rfl rfl)
theorem dX4_numberIn_29 : decode cX4_numberIn 29 = .ok (.iconst 5, 1) := dk_8 (dk_at dksX4_numberIn_1 7 rfl rfl)
theorem dX4_numberIn_30 : decode cX4_numberIn 30 = .ok (.invokevirtual 160, 3) := dk_182 0 160 (dk_at dksX4_numberIn_1 8 rfl rfl)
theorem dX4_numberIn_33 : decode cX4_numberIn 33 = .ok (.aload_n 0, 1) := dk_42 (dk_at dksX4_numberIn_1 11 rfl rfl)
theorem dX4_numberIn_34 : decode cX4_numberIn 34 = .ok (.bipush 31, 2) := dk_16 31 (dk_at dksX4_numberIn_1 12 rfl rfl)
theorem dX4_numberIn_36 : decode cX4_numberIn 36 = .ok (.invokevirtual 164, 3) := dk_182 0 164 (dk_at dksX4_numberIn_1 14 rfl rfl)
theorem dX4_numberIn_39 : decode cX4_numberIn 39 = .ok (.iload_n 3, 1) := dk_29 (dk_at dksX4_numberIn_1 17 rfl rfl)
theorem dX4_numberIn_40 : decode cX4_numberIn 40 = .ok (.ireturn, 1) := dk_172 (dk_at dksX4_numberIn_1 18 rfl rfl)
abbrev cX4_mark : ByteArray := prog_45_method_21_code
def yX4_mark : MethodName := ⟨RX4, "mark", "(I)V"⟩
def dkwX4_mark_1 : List UInt8 := [180, 0, 120, 181, 0, 126, 177]
abbrev dktX4_mark_1 : List UInt8 := dkwX4_mark_1 ++ []
def dkwX4_mark_0 : List UInt8 := [42, 180, 0, 116, 154, 0, 10, 42, 180, 0, 123, 153, 0, 4, 177, 42, 27, 181, 0, 123, 42, 42]
abbrev dktX4_mark_0 : List UInt8 := dkwX4_mark_0 ++ dktX4_mark_1
theorem dksX4_mark_0 : cX4_mark.data.toList.drop 0 = dktX4_mark_0 := by decide +kernel
theorem dksX4_mark_1 : cX4_mark.data.toList.drop 22 = dktX4_mark_1 := dk_seg dksX4_mark_0 22 rfl rfl
theorem dX4_mark_0 : decode cX4_mark 0 = .ok (.aload_n 0, 1) := dk_42 (dk_at dksX4_mark_0 0 rfl rfl)
theorem dX4_mark_1 : decode cX4_mark 1 = .ok (.getfield 116, 3) := dk_180 0 116 (dk_at dksX4_mark_0 1 rfl rfl)
theorem dX4_mark_4 : decode cX4_mark 4 = .ok (.ifCond .ne 10, 3) := dk_154 0 10 (dk_at dksX4_mark_0 4 rfl rfl)
theorem dX4_mark_7 : decode cX4_mark 7 = .ok (.aload_n 0, 1) := dk_42 (dk_at dksX4_mark_0 7 rfl rfl)
theorem dX4_mark_8 : decode cX4_mark 8 = .ok (.getfield 123, 3) := dk_180 0 123 (dk_at dksX4_mark_0 8 rfl rfl)
theorem dX4_mark_11 : decode cX4_mark 11 = .ok (.ifCond .eq 4, 3) := dk_153 0 4 (dk_at dksX4_mark_0 11 rfl rfl)
theorem dX4_mark_14 : decode cX4_mark 14 = .ok (.return_, 1) := dk_177 (dk_at dksX4_mark_0 14 rfl rfl)
theorem dX4_mark_15 : decode cX4_mark 15 = .ok (.aload_n 0, 1) := dk_42 (dk_at dksX4_mark_0 15 rfl rfl)
theorem dX4_mark_16 : decode cX4_mark 16 = .ok (.iload_n 1, 1) := dk_27 (dk_at dksX4_mark_0 16 rfl rfl)
theorem dX4_mark_17 : decode cX4_mark 17 = .ok (.putfield 123, 3) := dk_181 0 123 (dk_at dksX4_mark_0 17 rfl rfl)
theorem dX4_mark_20 : decode cX4_mark 20 = .ok (.aload_n 0, 1) := dk_42 (dk_at dksX4_mark_0 20 rfl rfl)
theorem dX4_mark_21 : decode cX4_mark 21 = .ok (.aload_n 0, 1) := dk_42 (dk_at dksX4_mark_0 21 rfl rfl)
theorem dX4_mark_22 : decode cX4_mark 22 = .ok (.getfield 120, 3) := dk_180 0 120 (dk_at dksX4_mark_1 0 rfl rfl)
theorem dX4_mark_25 : decode cX4_mark 25 = .ok (.putfield 126, 3) := dk_181 0 126 (dk_at dksX4_mark_1 3 rfl rfl)
theorem dX4_mark_28 : decode cX4_mark 28 = .ok (.return_, 1) := dk_177 (dk_at dksX4_mark_1 6 rfl rfl)
abbrev cX4_take : ByteArray := prog_45_method_18_code
def yX4_take : MethodName := ⟨RX4, "take", "(I)V"⟩
def dkwX4_take_1 : List UInt8 := [182, 0, 132, 177]
abbrev dktX4_take_1 : List UInt8 := dkwX4_take_1 ++ []
def dkwX4_take_0 : List UInt8 := [42, 27, 182, 0, 129, 153, 0, 16, 42, 89, 180, 0, 120, 4, 96, 181, 0, 120, 167, 0, 7, 42]
abbrev dktX4_take_0 : List UInt8 := dkwX4_take_0 ++ dktX4_take_1
theorem dksX4_take_0 : cX4_take.data.toList.drop 0 = dktX4_take_0 := by decide +kernel
theorem dksX4_take_1 : cX4_take.data.toList.drop 22 = dktX4_take_1 := dk_seg dksX4_take_0 22 rfl rfl
theorem dX4_take_0 : decode cX4_take 0 = .ok (.aload_n 0, 1) := dk_42 (dk_at dksX4_take_0 0 rfl rfl)
theorem dX4_take_1 : decode cX4_take 1 = .ok (.iload_n 1, 1) := dk_27 (dk_at dksX4_take_0 1 rfl rfl)
theorem dX4_take_2 : decode cX4_take 2 = .ok (.invokevirtual 129, 3) := dk_182 0 129 (dk_at dksX4_take_0 2 rfl rfl)
theorem dX4_take_5 : decode cX4_take 5 = .ok (.ifCond .eq 16, 3) := dk_153 0 16 (dk_at dksX4_take_0 5 rfl rfl)
theorem dX4_take_8 : decode cX4_take 8 = .ok (.aload_n 0, 1) := dk_42 (dk_at dksX4_take_0 8 rfl rfl)
theorem dX4_take_9 : decode cX4_take 9 = .ok (.dup, 1) := dk_89 (dk_at dksX4_take_0 9 rfl rfl)
theorem dX4_take_10 : decode cX4_take 10 = .ok (.getfield 120, 3) := dk_180 0 120 (dk_at dksX4_take_0 10 rfl rfl)
theorem dX4_take_13 : decode cX4_take 13 = .ok (.iconst 1, 1) := dk_4 (dk_at dksX4_take_0 13 rfl rfl)
theorem dX4_take_14 : decode cX4_take 14 = .ok (.iadd, 1) := dk_96 (dk_at dksX4_take_0 14 rfl rfl)
theorem dX4_take_15 : decode cX4_take 15 = .ok (.putfield 120, 3) := dk_181 0 120 (dk_at dksX4_take_0 15 rfl rfl)
theorem dX4_take_18 : decode cX4_take 18 = .ok (.goto 7, 3) := dk_167 0 7 (dk_at dksX4_take_0 18 rfl rfl)
theorem dX4_take_21 : decode cX4_take 21 = .ok (.aload_n 0, 1) := dk_42 (dk_at dksX4_take_0 21 rfl rfl)
theorem dX4_take_22 : decode cX4_take 22 = .ok (.invokevirtual 132, 3) := dk_182 0 132 (dk_at dksX4_take_1 0 rfl rfl)
theorem dX4_take_25 : decode cX4_take 25 = .ok (.return_, 1) := dk_177 (dk_at dksX4_take_1 3 rfl rfl)
abbrev cX4_wrong : ByteArray := prog_45_method_17_code
def yX4_wrong : MethodName := ⟨RX4, "wrong", "()V"⟩
def dkwX4_wrong_1 : List UInt8 := [181, 0, 126, 177]
abbrev dktX4_wrong_1 : List UInt8 := dkwX4_wrong_1 ++ []
def dkwX4_wrong_0 : List UInt8 := [42, 180, 0, 116, 153, 0, 4, 177, 42, 4, 181, 0, 116, 42, 4, 181, 0, 123, 42, 42, 180, 0, 120]
abbrev dktX4_wrong_0 : List UInt8 := dkwX4_wrong_0 ++ dktX4_wrong_1
theorem dksX4_wrong_0 : cX4_wrong.data.toList.drop 0 = dktX4_wrong_0 := by decide +kernel
theorem dksX4_wrong_1 : cX4_wrong.data.toList.drop 23 = dktX4_wrong_1 := dk_seg dksX4_wrong_0 23 rfl rfl
theorem dX4_wrong_0 : decode cX4_wrong 0 = .ok (.aload_n 0, 1) := dk_42 (dk_at dksX4_wrong_0 0 rfl rfl)
theorem dX4_wrong_1 : decode cX4_wrong 1 = .ok (.getfield 116, 3) := dk_180 0 116 (dk_at dksX4_wrong_0 1 rfl rfl)
theorem dX4_wrong_4 : decode cX4_wrong 4 = .ok (.ifCond .eq 4, 3) := dk_153 0 4 (dk_at dksX4_wrong_0 4 rfl rfl)
theorem dX4_wrong_7 : decode cX4_wrong 7 = .ok (.return_, 1) := dk_177 (dk_at dksX4_wrong_0 7 rfl rfl)
theorem dX4_wrong_8 : decode cX4_wrong 8 = .ok (.aload_n 0, 1) := dk_42 (dk_at dksX4_wrong_0 8 rfl rfl)
theorem dX4_wrong_9 : decode cX4_wrong 9 = .ok (.iconst 1, 1) := dk_4 (dk_at dksX4_wrong_0 9 rfl rfl)
theorem dX4_wrong_10 : decode cX4_wrong 10 = .ok (.putfield 116, 3) := dk_181 0 116 (dk_at dksX4_wrong_0 10 rfl rfl)
theorem dX4_wrong_13 : decode cX4_wrong 13 = .ok (.aload_n 0, 1) := dk_42 (dk_at dksX4_wrong_0 13 rfl rfl)
theorem dX4_wrong_14 : decode cX4_wrong 14 = .ok (.iconst 1, 1) := dk_4 (dk_at dksX4_wrong_0 14 rfl rfl)
theorem dX4_wrong_15 : decode cX4_wrong 15 = .ok (.putfield 123, 3) := dk_181 0 123 (dk_at dksX4_wrong_0 15 rfl rfl)
theorem dX4_wrong_18 : decode cX4_wrong 18 = .ok (.aload_n 0, 1) := dk_42 (dk_at dksX4_wrong_0 18 rfl rfl)
theorem dX4_wrong_19 : decode cX4_wrong 19 = .ok (.aload_n 0, 1) := dk_42 (dk_at dksX4_wrong_0 19 rfl rfl)
theorem dX4_wrong_20 : decode cX4_wrong 20 = .ok (.getfield 120, 3) := dk_180 0 120 (dk_at dksX4_wrong_0 20 rfl rfl)
theorem dX4_wrong_23 : decode cX4_wrong 23 = .ok (.putfield 126, 3) := dk_181 0 126 (dk_at dksX4_wrong_1 0 rfl rfl)
theorem dX4_wrong_26 : decode cX4_wrong 26 = .ok (.return_, 1) := dk_177 (dk_at dksX4_wrong_1 3 rfl rfl)
abbrev cX4_line : ByteArray := prog_45_method_38_code
def yX4_line : MethodName := ⟨RX4, "line", "()V"⟩
def dkwX4_line_2 : List UInt8 := [42, 16, 7, 182, 0, 129, 153, 0, 11, 42, 5, 182, 0, 242, 167, 0, 7, 42, 182, 0, 132, 177]
abbrev dktX4_line_2 : List UInt8 := dkwX4_line_2 ++ []
def dkwX4_line_1 : List UInt8 := [3, 182, 0, 242, 167, 0, 41, 42, 16, 6, 182, 0, 129, 153, 0, 11, 42, 4, 182, 0, 242, 167, 0, 24]
abbrev dktX4_line_1 : List UInt8 := dkwX4_line_1 ++ dktX4_line_2
def dkwX4_line_0 : List UInt8 := [42, 5, 182, 0, 182, 153, 0, 10, 42, 182, 0, 240, 167, 0, 57, 42, 6, 182, 0, 129, 153, 0, 11, 42]
abbrev dktX4_line_0 : List UInt8 := dkwX4_line_0 ++ dktX4_line_1
theorem dksX4_line_0 : cX4_line.data.toList.drop 0 = dktX4_line_0 := by decide +kernel
theorem dksX4_line_1 : cX4_line.data.toList.drop 24 = dktX4_line_1 := dk_seg dksX4_line_0 24 rfl rfl
theorem dksX4_line_2 : cX4_line.data.toList.drop 48 = dktX4_line_2 := dk_seg dksX4_line_1 24 rfl rfl
theorem dX4_line_0 : decode cX4_line 0 = .ok (.aload_n 0, 1) := dk_42 (dk_at dksX4_line_0 0 rfl rfl)
theorem dX4_line_1 : decode cX4_line 1 = .ok (.iconst 2, 1) := dk_5 (dk_at dksX4_line_0 1 rfl rfl)
theorem dX4_line_2 : decode cX4_line 2 = .ok (.invokevirtual 182, 3) := dk_182 0 182 (dk_at dksX4_line_0 2 rfl rfl)
theorem dX4_line_5 : decode cX4_line 5 = .ok (.ifCond .eq 10, 3) := dk_153 0 10 (dk_at dksX4_line_0 5 rfl rfl)
theorem dX4_line_8 : decode cX4_line 8 = .ok (.aload_n 0, 1) := dk_42 (dk_at dksX4_line_0 8 rfl rfl)
theorem dX4_line_9 : decode cX4_line 9 = .ok (.invokevirtual 240, 3) := dk_182 0 240 (dk_at dksX4_line_0 9 rfl rfl)
theorem dX4_line_12 : decode cX4_line 12 = .ok (.goto 57, 3) := dk_167 0 57 (dk_at dksX4_line_0 12 rfl rfl)
theorem dX4_line_15 : decode cX4_line 15 = .ok (.aload_n 0, 1) := dk_42 (dk_at dksX4_line_0 15 rfl rfl)
theorem dX4_line_16 : decode cX4_line 16 = .ok (.iconst 3, 1) := dk_6 (dk_at dksX4_line_0 16 rfl rfl)
theorem dX4_line_17 : decode cX4_line 17 = .ok (.invokevirtual 129, 3) := dk_182 0 129 (dk_at dksX4_line_0 17 rfl rfl)
theorem dX4_line_20 : decode cX4_line 20 = .ok (.ifCond .eq 11, 3) := dk_153 0 11 (dk_at dksX4_line_0 20 rfl rfl)
theorem dX4_line_23 : decode cX4_line 23 = .ok (.aload_n 0, 1) := dk_42 (dk_at dksX4_line_0 23 rfl rfl)
theorem dX4_line_24 : decode cX4_line 24 = .ok (.iconst 0, 1) := dk_3 (dk_at dksX4_line_1 0 rfl rfl)
theorem dX4_line_25 : decode cX4_line 25 = .ok (.invokevirtual 242, 3) := dk_182 0 242 (dk_at dksX4_line_1 1 rfl rfl)
theorem dX4_line_28 : decode cX4_line 28 = .ok (.goto 41, 3) := dk_167 0 41 (dk_at dksX4_line_1 4 rfl rfl)
theorem dX4_line_31 : decode cX4_line 31 = .ok (.aload_n 0, 1) := dk_42 (dk_at dksX4_line_1 7 rfl rfl)
theorem dX4_line_32 : decode cX4_line 32 = .ok (.bipush 6, 2) := dk_16 6 (dk_at dksX4_line_1 8 rfl rfl)
theorem dX4_line_34 : decode cX4_line 34 = .ok (.invokevirtual 129, 3) := dk_182 0 129 (dk_at dksX4_line_1 10 rfl rfl)
theorem dX4_line_37 : decode cX4_line 37 = .ok (.ifCond .eq 11, 3) := dk_153 0 11 (dk_at dksX4_line_1 13 rfl rfl)
theorem dX4_line_40 : decode cX4_line 40 = .ok (.aload_n 0, 1) := dk_42 (dk_at dksX4_line_1 16 rfl rfl)
theorem dX4_line_41 : decode cX4_line 41 = .ok (.iconst 1, 1) := dk_4 (dk_at dksX4_line_1 17 rfl rfl)
theorem dX4_line_42 : decode cX4_line 42 = .ok (.invokevirtual 242, 3) := dk_182 0 242 (dk_at dksX4_line_1 18 rfl rfl)
theorem dX4_line_45 : decode cX4_line 45 = .ok (.goto 24, 3) := dk_167 0 24 (dk_at dksX4_line_1 21 rfl rfl)
theorem dX4_line_48 : decode cX4_line 48 = .ok (.aload_n 0, 1) := dk_42 (dk_at dksX4_line_2 0 rfl rfl)
theorem dX4_line_49 : decode cX4_line 49 = .ok (.bipush 7, 2) := dk_16 7 (dk_at dksX4_line_2 1 rfl rfl)
theorem dX4_line_51 : decode cX4_line 51 = .ok (.invokevirtual 129, 3) := dk_182 0 129 (dk_at dksX4_line_2 3 rfl rfl)
theorem dX4_line_54 : decode cX4_line 54 = .ok (.ifCond .eq 11, 3) := dk_153 0 11 (dk_at dksX4_line_2 6 rfl rfl)
theorem dX4_line_57 : decode cX4_line 57 = .ok (.aload_n 0, 1) := dk_42 (dk_at dksX4_line_2 9 rfl rfl)
theorem dX4_line_58 : decode cX4_line 58 = .ok (.iconst 2, 1) := dk_5 (dk_at dksX4_line_2 10 rfl rfl)
theorem dX4_line_59 : decode cX4_line 59 = .ok (.invokevirtual 242, 3) := dk_182 0 242 (dk_at dksX4_line_2 11 rfl rfl)
theorem dX4_line_62 : decode cX4_line 62 = .ok (.goto 7, 3) := dk_167 0 7 (dk_at dksX4_line_2 14 rfl rfl)
theorem dX4_line_65 : decode cX4_line 65 = .ok (.aload_n 0, 1) := dk_42 (dk_at dksX4_line_2 17 rfl rfl)
theorem dX4_line_66 : decode cX4_line 66 = .ok (.invokevirtual 132, 3) := dk_182 0 132 (dk_at dksX4_line_2 18 rfl rfl)
theorem dX4_line_69 : decode cX4_line 69 = .ok (.return_, 1) := dk_177 (dk_at dksX4_line_2 21 rfl rfl)
abbrev cX4_tile : ByteArray := prog_45_method_36_code
def yX4_tile : MethodName := ⟨RX4, "tile", "()V"⟩
def dkwX4_tile_5 : List UInt8 := [167, 255, 228, 42, 180, 0, 39, 16, 16, 27, 4, 96, 184, 0, 211, 181, 0, 150, 177]
abbrev dktX4_tile_5 : List UInt8 := dkwX4_tile_5 ++ []
def dkwX4_tile_4 : List UInt8 := [180, 0, 39, 180, 0, 214, 6, 27, 104, 28, 96, 42, 3, 16, 9, 182, 0, 217, 79, 132, 2, 1]
abbrev dktX4_tile_4 : List UInt8 := dkwX4_tile_4 ++ dktX4_tile_5
def dkwX4_tile_3 : List UInt8 := [180, 0, 29, 27, 42, 180, 0, 120, 79, 42, 16, 30, 182, 0, 164, 3, 61, 28, 6, 162, 0, 29, 42]
abbrev dktX4_tile_3 : List UInt8 := dkwX4_tile_3 ++ dktX4_tile_4
def dkwX4_tile_2 : List UInt8 := [160, 0, 8, 42, 7, 182, 0, 160, 42, 16, 30, 182, 0, 129, 153, 0, 19, 27, 16, 16, 162, 0, 13, 42]
abbrev dktX4_tile_2 : List UInt8 := dkwX4_tile_2 ++ dktX4_tile_3
def dkwX4_tile_1 : List UInt8 := [182, 0, 157, 2, 159, 0, 8, 42, 5, 182, 0, 160, 42, 16, 30, 182, 0, 129, 153, 0, 14, 27, 16, 16]
abbrev dktX4_tile_1 : List UInt8 := dkwX4_tile_1 ++ dktX4_tile_2
def dkwX4_tile_0 : List UInt8 := [16, 16, 42, 180, 0, 39, 180, 0, 150, 184, 0, 211, 60, 42, 16, 30, 182, 0, 129, 153, 0, 16, 42]
abbrev dktX4_tile_0 : List UInt8 := dkwX4_tile_0 ++ dktX4_tile_1
theorem dksX4_tile_0 : cX4_tile.data.toList.drop 0 = dktX4_tile_0 := by decide +kernel
theorem dksX4_tile_1 : cX4_tile.data.toList.drop 23 = dktX4_tile_1 := dk_seg dksX4_tile_0 23 rfl rfl
theorem dksX4_tile_2 : cX4_tile.data.toList.drop 47 = dktX4_tile_2 := dk_seg dksX4_tile_1 24 rfl rfl
theorem dksX4_tile_3 : cX4_tile.data.toList.drop 71 = dktX4_tile_3 := dk_seg dksX4_tile_2 24 rfl rfl
theorem dksX4_tile_4 : cX4_tile.data.toList.drop 94 = dktX4_tile_4 := dk_seg dksX4_tile_3 23 rfl rfl
theorem dksX4_tile_5 : cX4_tile.data.toList.drop 116 = dktX4_tile_5 := dk_seg dksX4_tile_4 22 rfl rfl
theorem dX4_tile_0 : decode cX4_tile 0 = .ok (.bipush 16, 2) := dk_16 16 (dk_at dksX4_tile_0 0 rfl rfl)
theorem dX4_tile_2 : decode cX4_tile 2 = .ok (.aload_n 0, 1) := dk_42 (dk_at dksX4_tile_0 2 rfl rfl)
theorem dX4_tile_3 : decode cX4_tile 3 = .ok (.getfield 39, 3) := dk_180 0 39 (dk_at dksX4_tile_0 3 rfl rfl)
theorem dX4_tile_6 : decode cX4_tile 6 = .ok (.getfield 150, 3) := dk_180 0 150 (dk_at dksX4_tile_0 6 rfl rfl)
theorem dX4_tile_9 : decode cX4_tile 9 = .ok (.invokestatic 211, 3) := dk_184 0 211 (dk_at dksX4_tile_0 9 rfl rfl)
theorem dX4_tile_12 : decode cX4_tile 12 = .ok (.istore_n 1, 1) := dk_60 (dk_at dksX4_tile_0 12 rfl rfl)
theorem dX4_tile_13 : decode cX4_tile 13 = .ok (.aload_n 0, 1) := dk_42 (dk_at dksX4_tile_0 13 rfl rfl)
theorem dX4_tile_14 : decode cX4_tile 14 = .ok (.bipush 30, 2) := dk_16 30 (dk_at dksX4_tile_0 14 rfl rfl)
theorem dX4_tile_16 : decode cX4_tile 16 = .ok (.invokevirtual 129, 3) := dk_182 0 129 (dk_at dksX4_tile_0 16 rfl rfl)
theorem dX4_tile_19 : decode cX4_tile 19 = .ok (.ifCond .eq 16, 3) := dk_153 0 16 (dk_at dksX4_tile_0 19 rfl rfl)
theorem dX4_tile_22 : decode cX4_tile 22 = .ok (.aload_n 0, 1) := dk_42 (dk_at dksX4_tile_0 22 rfl rfl)
theorem dX4_tile_23 : decode cX4_tile 23 = .ok (.invokevirtual 157, 3) := dk_182 0 157 (dk_at dksX4_tile_1 0 rfl rfl)
theorem dX4_tile_26 : decode cX4_tile 26 = .ok (.iconst (-1), 1) := dk_2 (dk_at dksX4_tile_1 3 rfl rfl)
theorem dX4_tile_27 : decode cX4_tile 27 = .ok (.if_icmp .eq 8, 3) := dk_159 0 8 (dk_at dksX4_tile_1 4 rfl rfl)
theorem dX4_tile_30 : decode cX4_tile 30 = .ok (.aload_n 0, 1) := dk_42 (dk_at dksX4_tile_1 7 rfl rfl)
theorem dX4_tile_31 : decode cX4_tile 31 = .ok (.iconst 2, 1) := dk_5 (dk_at dksX4_tile_1 8 rfl rfl)
theorem dX4_tile_32 : decode cX4_tile 32 = .ok (.invokevirtual 160, 3) := dk_182 0 160 (dk_at dksX4_tile_1 9 rfl rfl)
theorem dX4_tile_35 : decode cX4_tile 35 = .ok (.aload_n 0, 1) := dk_42 (dk_at dksX4_tile_1 12 rfl rfl)
theorem dX4_tile_36 : decode cX4_tile 36 = .ok (.bipush 30, 2) := dk_16 30 (dk_at dksX4_tile_1 13 rfl rfl)
theorem dX4_tile_38 : decode cX4_tile 38 = .ok (.invokevirtual 129, 3) := dk_182 0 129 (dk_at dksX4_tile_1 15 rfl rfl)
theorem dX4_tile_41 : decode cX4_tile 41 = .ok (.ifCond .eq 14, 3) := dk_153 0 14 (dk_at dksX4_tile_1 18 rfl rfl)
theorem dX4_tile_44 : decode cX4_tile 44 = .ok (.iload_n 1, 1) := dk_27 (dk_at dksX4_tile_1 21 rfl rfl)
theorem dX4_tile_45 : decode cX4_tile 45 = .ok (.bipush 16, 2) := dk_16 16 (dk_at dksX4_tile_1 22 rfl rfl)
theorem dX4_tile_47 : decode cX4_tile 47 = .ok (.if_icmp .ne 8, 3) := dk_160 0 8 (dk_at dksX4_tile_2 0 rfl rfl)
theorem dX4_tile_50 : decode cX4_tile 50 = .ok (.aload_n 0, 1) := dk_42 (dk_at dksX4_tile_2 3 rfl rfl)
theorem dX4_tile_51 : decode cX4_tile 51 = .ok (.iconst 4, 1) := dk_7 (dk_at dksX4_tile_2 4 rfl rfl)
theorem dX4_tile_52 : decode cX4_tile 52 = .ok (.invokevirtual 160, 3) := dk_182 0 160 (dk_at dksX4_tile_2 5 rfl rfl)
theorem dX4_tile_55 : decode cX4_tile 55 = .ok (.aload_n 0, 1) := dk_42 (dk_at dksX4_tile_2 8 rfl rfl)
theorem dX4_tile_56 : decode cX4_tile 56 = .ok (.bipush 30, 2) := dk_16 30 (dk_at dksX4_tile_2 9 rfl rfl)
theorem dX4_tile_58 : decode cX4_tile 58 = .ok (.invokevirtual 129, 3) := dk_182 0 129 (dk_at dksX4_tile_2 11 rfl rfl)
theorem dX4_tile_61 : decode cX4_tile 61 = .ok (.ifCond .eq 19, 3) := dk_153 0 19 (dk_at dksX4_tile_2 14 rfl rfl)
theorem dX4_tile_64 : decode cX4_tile 64 = .ok (.iload_n 1, 1) := dk_27 (dk_at dksX4_tile_2 17 rfl rfl)
theorem dX4_tile_65 : decode cX4_tile 65 = .ok (.bipush 16, 2) := dk_16 16 (dk_at dksX4_tile_2 18 rfl rfl)
theorem dX4_tile_67 : decode cX4_tile 67 = .ok (.if_icmp .ge 13, 3) := dk_162 0 13 (dk_at dksX4_tile_2 20 rfl rfl)
theorem dX4_tile_70 : decode cX4_tile 70 = .ok (.aload_n 0, 1) := dk_42 (dk_at dksX4_tile_2 23 rfl rfl)
theorem dX4_tile_71 : decode cX4_tile 71 = .ok (.getfield 29, 3) := dk_180 0 29 (dk_at dksX4_tile_3 0 rfl rfl)
theorem dX4_tile_74 : decode cX4_tile 74 = .ok (.iload_n 1, 1) := dk_27 (dk_at dksX4_tile_3 3 rfl rfl)
theorem dX4_tile_75 : decode cX4_tile 75 = .ok (.aload_n 0, 1) := dk_42 (dk_at dksX4_tile_3 4 rfl rfl)
theorem dX4_tile_76 : decode cX4_tile 76 = .ok (.getfield 120, 3) := dk_180 0 120 (dk_at dksX4_tile_3 5 rfl rfl)
theorem dX4_tile_79 : decode cX4_tile 79 = .ok (.iastore, 1) := dk_79 (dk_at dksX4_tile_3 8 rfl rfl)
theorem dX4_tile_80 : decode cX4_tile 80 = .ok (.aload_n 0, 1) := dk_42 (dk_at dksX4_tile_3 9 rfl rfl)
theorem dX4_tile_81 : decode cX4_tile 81 = .ok (.bipush 30, 2) := dk_16 30 (dk_at dksX4_tile_3 10 rfl rfl)
theorem dX4_tile_83 : decode cX4_tile 83 = .ok (.invokevirtual 164, 3) := dk_182 0 164 (dk_at dksX4_tile_3 12 rfl rfl)
theorem dX4_tile_86 : decode cX4_tile 86 = .ok (.iconst 0, 1) := dk_3 (dk_at dksX4_tile_3 15 rfl rfl)
theorem dX4_tile_87 : decode cX4_tile 87 = .ok (.istore_n 2, 1) := dk_61 (dk_at dksX4_tile_3 16 rfl rfl)
theorem dX4_tile_88 : decode cX4_tile 88 = .ok (.iload_n 2, 1) := dk_28 (dk_at dksX4_tile_3 17 rfl rfl)
theorem dX4_tile_89 : decode cX4_tile 89 = .ok (.iconst 3, 1) := dk_6 (dk_at dksX4_tile_3 18 rfl rfl)
theorem dX4_tile_90 : decode cX4_tile 90 = .ok (.if_icmp .ge 29, 3) := dk_162 0 29 (dk_at dksX4_tile_3 19 rfl rfl)
theorem dX4_tile_93 : decode cX4_tile 93 = .ok (.aload_n 0, 1) := dk_42 (dk_at dksX4_tile_3 22 rfl rfl)
theorem dX4_tile_94 : decode cX4_tile 94 = .ok (.getfield 39, 3) := dk_180 0 39 (dk_at dksX4_tile_4 0 rfl rfl)
theorem dX4_tile_97 : decode cX4_tile 97 = .ok (.getfield 214, 3) := dk_180 0 214 (dk_at dksX4_tile_4 3 rfl rfl)
theorem dX4_tile_100 : decode cX4_tile 100 = .ok (.iconst 3, 1) := dk_6 (dk_at dksX4_tile_4 6 rfl rfl)
theorem dX4_tile_101 : decode cX4_tile 101 = .ok (.iload_n 1, 1) := dk_27 (dk_at dksX4_tile_4 7 rfl rfl)
theorem dX4_tile_102 : decode cX4_tile 102 = .ok (.imul, 1) := dk_104 (dk_at dksX4_tile_4 8 rfl rfl)
theorem dX4_tile_103 : decode cX4_tile 103 = .ok (.iload_n 2, 1) := dk_28 (dk_at dksX4_tile_4 9 rfl rfl)
theorem dX4_tile_104 : decode cX4_tile 104 = .ok (.iadd, 1) := dk_96 (dk_at dksX4_tile_4 10 rfl rfl)
theorem dX4_tile_105 : decode cX4_tile 105 = .ok (.aload_n 0, 1) := dk_42 (dk_at dksX4_tile_4 11 rfl rfl)
theorem dX4_tile_106 : decode cX4_tile 106 = .ok (.iconst 0, 1) := dk_3 (dk_at dksX4_tile_4 12 rfl rfl)
theorem dX4_tile_107 : decode cX4_tile 107 = .ok (.bipush 9, 2) := dk_16 9 (dk_at dksX4_tile_4 13 rfl rfl)
theorem dX4_tile_109 : decode cX4_tile 109 = .ok (.invokevirtual 217, 3) := dk_182 0 217 (dk_at dksX4_tile_4 15 rfl rfl)
theorem dX4_tile_112 : decode cX4_tile 112 = .ok (.iastore, 1) := dk_79 (dk_at dksX4_tile_4 18 rfl rfl)
theorem dX4_tile_113 : decode cX4_tile 113 = .ok (.iinc 2 1, 3) := dk_132 2 1 (dk_at dksX4_tile_4 19 rfl rfl)
theorem dX4_tile_116 : decode cX4_tile 116 = .ok (.goto (-28), 3) := dk_167 255 228 (dk_at dksX4_tile_5 0 rfl rfl)
theorem dX4_tile_119 : decode cX4_tile 119 = .ok (.aload_n 0, 1) := dk_42 (dk_at dksX4_tile_5 3 rfl rfl)
theorem dX4_tile_120 : decode cX4_tile 120 = .ok (.getfield 39, 3) := dk_180 0 39 (dk_at dksX4_tile_5 4 rfl rfl)
theorem dX4_tile_123 : decode cX4_tile 123 = .ok (.bipush 16, 2) := dk_16 16 (dk_at dksX4_tile_5 7 rfl rfl)
theorem dX4_tile_125 : decode cX4_tile 125 = .ok (.iload_n 1, 1) := dk_27 (dk_at dksX4_tile_5 9 rfl rfl)
theorem dX4_tile_126 : decode cX4_tile 126 = .ok (.iconst 1, 1) := dk_4 (dk_at dksX4_tile_5 10 rfl rfl)
theorem dX4_tile_127 : decode cX4_tile 127 = .ok (.iadd, 1) := dk_96 (dk_at dksX4_tile_5 11 rfl rfl)
theorem dX4_tile_128 : decode cX4_tile 128 = .ok (.invokestatic 211, 3) := dk_184 0 211 (dk_at dksX4_tile_5 12 rfl rfl)
theorem dX4_tile_131 : decode cX4_tile 131 = .ok (.putfield 150, 3) := dk_181 0 150 (dk_at dksX4_tile_5 15 rfl rfl)
theorem dX4_tile_134 : decode cX4_tile 134 = .ok (.return_, 1) := dk_177 (dk_at dksX4_tile_5 18 rfl rfl)
abbrev cX4_known : ByteArray := prog_45_method_24_code
def yX4_known : MethodName := ⟨RX4, "known", "()I"⟩
def dkwX4_known_1 : List UInt8 := [182, 0, 153, 153, 0, 5, 27, 172, 132, 1, 1, 167, 255, 223, 2, 172]
abbrev dktX4_known_1 : List UInt8 := dkwX4_known_1 ++ []
def dkwX4_known_0 : List UInt8 := [3, 60, 27, 42, 180, 0, 39, 180, 0, 150, 162, 0, 28, 42, 42, 180, 0, 29, 27, 46, 42, 180, 0, 120]
abbrev dktX4_known_0 : List UInt8 := dkwX4_known_0 ++ dktX4_known_1
theorem dksX4_known_0 : cX4_known.data.toList.drop 0 = dktX4_known_0 := by decide +kernel
theorem dksX4_known_1 : cX4_known.data.toList.drop 24 = dktX4_known_1 := dk_seg dksX4_known_0 24 rfl rfl
theorem dX4_known_0 : decode cX4_known 0 = .ok (.iconst 0, 1) := dk_3 (dk_at dksX4_known_0 0 rfl rfl)
theorem dX4_known_1 : decode cX4_known 1 = .ok (.istore_n 1, 1) := dk_60 (dk_at dksX4_known_0 1 rfl rfl)
theorem dX4_known_2 : decode cX4_known 2 = .ok (.iload_n 1, 1) := dk_27 (dk_at dksX4_known_0 2 rfl rfl)
theorem dX4_known_3 : decode cX4_known 3 = .ok (.aload_n 0, 1) := dk_42 (dk_at dksX4_known_0 3 rfl rfl)
theorem dX4_known_4 : decode cX4_known 4 = .ok (.getfield 39, 3) := dk_180 0 39 (dk_at dksX4_known_0 4 rfl rfl)
theorem dX4_known_7 : decode cX4_known 7 = .ok (.getfield 150, 3) := dk_180 0 150 (dk_at dksX4_known_0 7 rfl rfl)
theorem dX4_known_10 : decode cX4_known 10 = .ok (.if_icmp .ge 28, 3) := dk_162 0 28 (dk_at dksX4_known_0 10 rfl rfl)
theorem dX4_known_13 : decode cX4_known 13 = .ok (.aload_n 0, 1) := dk_42 (dk_at dksX4_known_0 13 rfl rfl)
theorem dX4_known_14 : decode cX4_known 14 = .ok (.aload_n 0, 1) := dk_42 (dk_at dksX4_known_0 14 rfl rfl)
theorem dX4_known_15 : decode cX4_known 15 = .ok (.getfield 29, 3) := dk_180 0 29 (dk_at dksX4_known_0 15 rfl rfl)
theorem dX4_known_18 : decode cX4_known 18 = .ok (.iload_n 1, 1) := dk_27 (dk_at dksX4_known_0 18 rfl rfl)
theorem dX4_known_19 : decode cX4_known 19 = .ok (.iaload, 1) := dk_46 (dk_at dksX4_known_0 19 rfl rfl)
theorem dX4_known_20 : decode cX4_known 20 = .ok (.aload_n 0, 1) := dk_42 (dk_at dksX4_known_0 20 rfl rfl)
theorem dX4_known_21 : decode cX4_known 21 = .ok (.getfield 120, 3) := dk_180 0 120 (dk_at dksX4_known_0 21 rfl rfl)
theorem dX4_known_24 : decode cX4_known 24 = .ok (.invokevirtual 153, 3) := dk_182 0 153 (dk_at dksX4_known_1 0 rfl rfl)
theorem dX4_known_27 : decode cX4_known 27 = .ok (.ifCond .eq 5, 3) := dk_153 0 5 (dk_at dksX4_known_1 3 rfl rfl)
theorem dX4_known_30 : decode cX4_known 30 = .ok (.iload_n 1, 1) := dk_27 (dk_at dksX4_known_1 6 rfl rfl)
theorem dX4_known_31 : decode cX4_known 31 = .ok (.ireturn, 1) := dk_172 (dk_at dksX4_known_1 7 rfl rfl)
theorem dX4_known_32 : decode cX4_known 32 = .ok (.iinc 1 1, 3) := dk_132 1 1 (dk_at dksX4_known_1 8 rfl rfl)
theorem dX4_known_35 : decode cX4_known 35 = .ok (.goto (-33), 3) := dk_167 255 223 (dk_at dksX4_known_1 11 rfl rfl)
theorem dX4_known_38 : decode cX4_known 38 = .ok (.iconst (-1), 1) := dk_2 (dk_at dksX4_known_1 14 rfl rfl)
theorem dX4_known_39 : decode cX4_known 39 = .ok (.ireturn, 1) := dk_172 (dk_at dksX4_known_1 15 rfl rfl)
abbrev cX4_isSameName : ByteArray := prog_45_method_23_code
def yX4_isSameName : MethodName := ⟨RX4, "isSameName", "(II)Z"⟩
def dkwX4_isSameName_2 : List UInt8 := [180, 0, 23, 28, 46, 29, 96, 46, 159, 0, 5, 3, 172, 132, 3, 1, 167, 255, 212, 4, 172]
abbrev dktX4_isSameName_2 : List UInt8 := dkwX4_isSameName_2 ++ []
def dkwX4_isSameName_1 : List UInt8 := [27, 46, 162, 0, 40, 42, 180, 0, 9, 42, 180, 0, 23, 27, 46, 29, 96, 46, 42, 180, 0, 9, 42]
abbrev dktX4_isSameName_1 : List UInt8 := dkwX4_isSameName_1 ++ dktX4_isSameName_2
def dkwX4_isSameName_0 : List UInt8 := [42, 180, 0, 26, 27, 46, 42, 180, 0, 26, 28, 46, 159, 0, 5, 3, 172, 3, 62, 29, 42, 180, 0, 26]
abbrev dktX4_isSameName_0 : List UInt8 := dkwX4_isSameName_0 ++ dktX4_isSameName_1
theorem dksX4_isSameName_0 : cX4_isSameName.data.toList.drop 0 = dktX4_isSameName_0 := by decide +kernel
theorem dksX4_isSameName_1 : cX4_isSameName.data.toList.drop 24 = dktX4_isSameName_1 := dk_seg dksX4_isSameName_0 24 rfl rfl
theorem dksX4_isSameName_2 : cX4_isSameName.data.toList.drop 47 = dktX4_isSameName_2 := dk_seg dksX4_isSameName_1 23 rfl rfl
theorem dX4_isSameName_0 : decode cX4_isSameName 0 = .ok (.aload_n 0, 1) := dk_42 (dk_at dksX4_isSameName_0 0 rfl rfl)
theorem dX4_isSameName_1 : decode cX4_isSameName 1 = .ok (.getfield 26, 3) := dk_180 0 26 (dk_at dksX4_isSameName_0 1 rfl rfl)
theorem dX4_isSameName_4 : decode cX4_isSameName 4 = .ok (.iload_n 1, 1) := dk_27 (dk_at dksX4_isSameName_0 4 rfl rfl)
theorem dX4_isSameName_5 : decode cX4_isSameName 5 = .ok (.iaload, 1) := dk_46 (dk_at dksX4_isSameName_0 5 rfl rfl)
theorem dX4_isSameName_6 : decode cX4_isSameName 6 = .ok (.aload_n 0, 1) := dk_42 (dk_at dksX4_isSameName_0 6 rfl rfl)
theorem dX4_isSameName_7 : decode cX4_isSameName 7 = .ok (.getfield 26, 3) := dk_180 0 26 (dk_at dksX4_isSameName_0 7 rfl rfl)
theorem dX4_isSameName_10 : decode cX4_isSameName 10 = .ok (.iload_n 2, 1) := dk_28 (dk_at dksX4_isSameName_0 10 rfl rfl)
theorem dX4_isSameName_11 : decode cX4_isSameName 11 = .ok (.iaload, 1) := dk_46 (dk_at dksX4_isSameName_0 11 rfl rfl)
theorem dX4_isSameName_12 : decode cX4_isSameName 12 = .ok (.if_icmp .eq 5, 3) := dk_159 0 5 (dk_at dksX4_isSameName_0 12 rfl rfl)
theorem dX4_isSameName_15 : decode cX4_isSameName 15 = .ok (.iconst 0, 1) := dk_3 (dk_at dksX4_isSameName_0 15 rfl rfl)
theorem dX4_isSameName_16 : decode cX4_isSameName 16 = .ok (.ireturn, 1) := dk_172 (dk_at dksX4_isSameName_0 16 rfl rfl)
theorem dX4_isSameName_17 : decode cX4_isSameName 17 = .ok (.iconst 0, 1) := dk_3 (dk_at dksX4_isSameName_0 17 rfl rfl)
theorem dX4_isSameName_18 : decode cX4_isSameName 18 = .ok (.istore_n 3, 1) := dk_62 (dk_at dksX4_isSameName_0 18 rfl rfl)
theorem dX4_isSameName_19 : decode cX4_isSameName 19 = .ok (.iload_n 3, 1) := dk_29 (dk_at dksX4_isSameName_0 19 rfl rfl)
theorem dX4_isSameName_20 : decode cX4_isSameName 20 = .ok (.aload_n 0, 1) := dk_42 (dk_at dksX4_isSameName_0 20 rfl rfl)
theorem dX4_isSameName_21 : decode cX4_isSameName 21 = .ok (.getfield 26, 3) := dk_180 0 26 (dk_at dksX4_isSameName_0 21 rfl rfl)
theorem dX4_isSameName_24 : decode cX4_isSameName 24 = .ok (.iload_n 1, 1) := dk_27 (dk_at dksX4_isSameName_1 0 rfl rfl)
theorem dX4_isSameName_25 : decode cX4_isSameName 25 = .ok (.iaload, 1) := dk_46 (dk_at dksX4_isSameName_1 1 rfl rfl)
theorem dX4_isSameName_26 : decode cX4_isSameName 26 = .ok (.if_icmp .ge 40, 3) := dk_162 0 40 (dk_at dksX4_isSameName_1 2 rfl rfl)
theorem dX4_isSameName_29 : decode cX4_isSameName 29 = .ok (.aload_n 0, 1) := dk_42 (dk_at dksX4_isSameName_1 5 rfl rfl)
theorem dX4_isSameName_30 : decode cX4_isSameName 30 = .ok (.getfield 9, 3) := dk_180 0 9 (dk_at dksX4_isSameName_1 6 rfl rfl)
theorem dX4_isSameName_33 : decode cX4_isSameName 33 = .ok (.aload_n 0, 1) := dk_42 (dk_at dksX4_isSameName_1 9 rfl rfl)
theorem dX4_isSameName_34 : decode cX4_isSameName 34 = .ok (.getfield 23, 3) := dk_180 0 23 (dk_at dksX4_isSameName_1 10 rfl rfl)
theorem dX4_isSameName_37 : decode cX4_isSameName 37 = .ok (.iload_n 1, 1) := dk_27 (dk_at dksX4_isSameName_1 13 rfl rfl)
theorem dX4_isSameName_38 : decode cX4_isSameName 38 = .ok (.iaload, 1) := dk_46 (dk_at dksX4_isSameName_1 14 rfl rfl)
theorem dX4_isSameName_39 : decode cX4_isSameName 39 = .ok (.iload_n 3, 1) := dk_29 (dk_at dksX4_isSameName_1 15 rfl rfl)
theorem dX4_isSameName_40 : decode cX4_isSameName 40 = .ok (.iadd, 1) := dk_96 (dk_at dksX4_isSameName_1 16 rfl rfl)
theorem dX4_isSameName_41 : decode cX4_isSameName 41 = .ok (.iaload, 1) := dk_46 (dk_at dksX4_isSameName_1 17 rfl rfl)
theorem dX4_isSameName_42 : decode cX4_isSameName 42 = .ok (.aload_n 0, 1) := dk_42 (dk_at dksX4_isSameName_1 18 rfl rfl)
theorem dX4_isSameName_43 : decode cX4_isSameName 43 = .ok (.getfield 9, 3) := dk_180 0 9 (dk_at dksX4_isSameName_1 19 rfl rfl)
theorem dX4_isSameName_46 : decode cX4_isSameName 46 = .ok (.aload_n 0, 1) := dk_42 (dk_at dksX4_isSameName_1 22 rfl rfl)
theorem dX4_isSameName_47 : decode cX4_isSameName 47 = .ok (.getfield 23, 3) := dk_180 0 23 (dk_at dksX4_isSameName_2 0 rfl rfl)
theorem dX4_isSameName_50 : decode cX4_isSameName 50 = .ok (.iload_n 2, 1) := dk_28 (dk_at dksX4_isSameName_2 3 rfl rfl)
theorem dX4_isSameName_51 : decode cX4_isSameName 51 = .ok (.iaload, 1) := dk_46 (dk_at dksX4_isSameName_2 4 rfl rfl)
theorem dX4_isSameName_52 : decode cX4_isSameName 52 = .ok (.iload_n 3, 1) := dk_29 (dk_at dksX4_isSameName_2 5 rfl rfl)
theorem dX4_isSameName_53 : decode cX4_isSameName 53 = .ok (.iadd, 1) := dk_96 (dk_at dksX4_isSameName_2 6 rfl rfl)
theorem dX4_isSameName_54 : decode cX4_isSameName 54 = .ok (.iaload, 1) := dk_46 (dk_at dksX4_isSameName_2 7 rfl rfl)
theorem dX4_isSameName_55 : decode cX4_isSameName 55 = .ok (.if_icmp .eq 5, 3) := dk_159 0 5 (dk_at dksX4_isSameName_2 8 rfl rfl)
theorem dX4_isSameName_58 : decode cX4_isSameName 58 = .ok (.iconst 0, 1) := dk_3 (dk_at dksX4_isSameName_2 11 rfl rfl)
theorem dX4_isSameName_59 : decode cX4_isSameName 59 = .ok (.ireturn, 1) := dk_172 (dk_at dksX4_isSameName_2 12 rfl rfl)
theorem dX4_isSameName_60 : decode cX4_isSameName 60 = .ok (.iinc 3 1, 3) := dk_132 3 1 (dk_at dksX4_isSameName_2 13 rfl rfl)
theorem dX4_isSameName_63 : decode cX4_isSameName 63 = .ok (.goto (-44), 3) := dk_167 255 212 (dk_at dksX4_isSameName_2 16 rfl rfl)
theorem dX4_isSameName_66 : decode cX4_isSameName 66 = .ok (.iconst 1, 1) := dk_4 (dk_at dksX4_isSameName_2 19 rfl rfl)
theorem dX4_isSameName_67 : decode cX4_isSameName 67 = .ok (.ireturn, 1) := dk_172 (dk_at dksX4_isSameName_2 20 rfl rfl)
abbrev cX4_order : ByteArray := prog_45_method_37_code
def yX4_order : MethodName := ⟨RX4, "order", "(I)V"⟩
def dkwX4_order_8 : List UInt8 := [42, 180, 0, 39, 16, 16, 28, 4, 96, 184, 0, 211, 181, 0, 220, 177]
abbrev dktX4_order_8 : List UInt8 := dkwX4_order_8 ++ []
def dkwX4_order_7 : List UInt8 := [182, 0, 202, 167, 0, 4, 2, 79, 42, 180, 0, 39, 180, 0, 237, 28, 42, 180, 0, 39, 180, 0, 138, 79]
abbrev dktX4_order_7 : List UInt8 := dkwX4_order_7 ++ dktX4_order_8
def dkwX4_order_6 : List UInt8 := [182, 0, 175, 79, 42, 180, 0, 39, 180, 0, 235, 28, 42, 16, 8, 182, 0, 182, 153, 0, 10, 42]
abbrev dktX4_order_6 : List UInt8 := dkwX4_order_6 ++ dktX4_order_7
def dkwX4_order_5 : List UInt8 := [182, 0, 175, 79, 42, 8, 182, 0, 164, 42, 180, 0, 39, 180, 0, 232, 6, 28, 104, 5, 96, 42]
abbrev dktX4_order_5 : List UInt8 := dkwX4_order_5 ++ dktX4_order_6
def dkwX4_order_4 : List UInt8 := [182, 0, 175, 79, 42, 16, 54, 182, 0, 164, 42, 180, 0, 39, 180, 0, 232, 6, 28, 104, 4, 96, 42]
abbrev dktX4_order_4 : List UInt8 := dkwX4_order_4 ++ dktX4_order_5
def dkwX4_order_3 : List UInt8 := [182, 0, 185, 79, 27, 154, 0, 68, 42, 7, 182, 0, 164, 42, 180, 0, 39, 180, 0, 232, 6, 28, 104, 42]
abbrev dktX4_order_3 : List UInt8 := dkwX4_order_3 ++ dktX4_order_4
def dkwX4_order_2 : List UInt8 := [180, 0, 138, 79, 42, 180, 0, 39, 180, 0, 226, 28, 27, 79, 42, 180, 0, 39, 180, 0, 229, 28, 42]
abbrev dktX4_order_2 : List UInt8 := dkwX4_order_2 ++ dktX4_order_3
def dkwX4_order_1 : List UInt8 := [42, 89, 180, 0, 120, 4, 96, 181, 0, 120, 42, 180, 0, 39, 180, 0, 223, 28, 42, 180, 0, 39]
abbrev dktX4_order_1 : List UInt8 := dkwX4_order_1 ++ dktX4_order_2
def dkwX4_order_0 : List UInt8 := [16, 16, 42, 180, 0, 39, 180, 0, 220, 184, 0, 211, 61, 28, 16, 16, 160, 0, 8, 42, 7, 182, 0, 160]
abbrev dktX4_order_0 : List UInt8 := dkwX4_order_0 ++ dktX4_order_1
theorem dksX4_order_0 : cX4_order.data.toList.drop 0 = dktX4_order_0 := by decide +kernel
theorem dksX4_order_1 : cX4_order.data.toList.drop 24 = dktX4_order_1 := dk_seg dksX4_order_0 24 rfl rfl
theorem dksX4_order_2 : cX4_order.data.toList.drop 46 = dktX4_order_2 := dk_seg dksX4_order_1 22 rfl rfl
theorem dksX4_order_3 : cX4_order.data.toList.drop 69 = dktX4_order_3 := dk_seg dksX4_order_2 23 rfl rfl
theorem dksX4_order_4 : cX4_order.data.toList.drop 93 = dktX4_order_4 := dk_seg dksX4_order_3 24 rfl rfl
theorem dksX4_order_5 : cX4_order.data.toList.drop 116 = dktX4_order_5 := dk_seg dksX4_order_4 23 rfl rfl
theorem dksX4_order_6 : cX4_order.data.toList.drop 138 = dktX4_order_6 := dk_seg dksX4_order_5 22 rfl rfl
theorem dksX4_order_7 : cX4_order.data.toList.drop 160 = dktX4_order_7 := dk_seg dksX4_order_6 22 rfl rfl
theorem dksX4_order_8 : cX4_order.data.toList.drop 184 = dktX4_order_8 := dk_seg dksX4_order_7 24 rfl rfl
theorem dX4_order_0 : decode cX4_order 0 = .ok (.bipush 16, 2) := dk_16 16 (dk_at dksX4_order_0 0 rfl rfl)
theorem dX4_order_2 : decode cX4_order 2 = .ok (.aload_n 0, 1) := dk_42 (dk_at dksX4_order_0 2 rfl rfl)
theorem dX4_order_3 : decode cX4_order 3 = .ok (.getfield 39, 3) := dk_180 0 39 (dk_at dksX4_order_0 3 rfl rfl)
theorem dX4_order_6 : decode cX4_order 6 = .ok (.getfield 220, 3) := dk_180 0 220 (dk_at dksX4_order_0 6 rfl rfl)
theorem dX4_order_9 : decode cX4_order 9 = .ok (.invokestatic 211, 3) := dk_184 0 211 (dk_at dksX4_order_0 9 rfl rfl)
theorem dX4_order_12 : decode cX4_order 12 = .ok (.istore_n 2, 1) := dk_61 (dk_at dksX4_order_0 12 rfl rfl)
theorem dX4_order_13 : decode cX4_order 13 = .ok (.iload_n 2, 1) := dk_28 (dk_at dksX4_order_0 13 rfl rfl)
theorem dX4_order_14 : decode cX4_order 14 = .ok (.bipush 16, 2) := dk_16 16 (dk_at dksX4_order_0 14 rfl rfl)
theorem dX4_order_16 : decode cX4_order 16 = .ok (.if_icmp .ne 8, 3) := dk_160 0 8 (dk_at dksX4_order_0 16 rfl rfl)
theorem dX4_order_19 : decode cX4_order 19 = .ok (.aload_n 0, 1) := dk_42 (dk_at dksX4_order_0 19 rfl rfl)
theorem dX4_order_20 : decode cX4_order 20 = .ok (.iconst 4, 1) := dk_7 (dk_at dksX4_order_0 20 rfl rfl)
theorem dX4_order_21 : decode cX4_order 21 = .ok (.invokevirtual 160, 3) := dk_182 0 160 (dk_at dksX4_order_0 21 rfl rfl)
theorem dX4_order_24 : decode cX4_order 24 = .ok (.aload_n 0, 1) := dk_42 (dk_at dksX4_order_1 0 rfl rfl)
theorem dX4_order_25 : decode cX4_order 25 = .ok (.dup, 1) := dk_89 (dk_at dksX4_order_1 1 rfl rfl)
theorem dX4_order_26 : decode cX4_order 26 = .ok (.getfield 120, 3) := dk_180 0 120 (dk_at dksX4_order_1 2 rfl rfl)
theorem dX4_order_29 : decode cX4_order 29 = .ok (.iconst 1, 1) := dk_4 (dk_at dksX4_order_1 5 rfl rfl)
theorem dX4_order_30 : decode cX4_order 30 = .ok (.iadd, 1) := dk_96 (dk_at dksX4_order_1 6 rfl rfl)
theorem dX4_order_31 : decode cX4_order 31 = .ok (.putfield 120, 3) := dk_181 0 120 (dk_at dksX4_order_1 7 rfl rfl)
theorem dX4_order_34 : decode cX4_order 34 = .ok (.aload_n 0, 1) := dk_42 (dk_at dksX4_order_1 10 rfl rfl)
theorem dX4_order_35 : decode cX4_order 35 = .ok (.getfield 39, 3) := dk_180 0 39 (dk_at dksX4_order_1 11 rfl rfl)
theorem dX4_order_38 : decode cX4_order 38 = .ok (.getfield 223, 3) := dk_180 0 223 (dk_at dksX4_order_1 14 rfl rfl)
theorem dX4_order_41 : decode cX4_order 41 = .ok (.iload_n 2, 1) := dk_28 (dk_at dksX4_order_1 17 rfl rfl)
theorem dX4_order_42 : decode cX4_order 42 = .ok (.aload_n 0, 1) := dk_42 (dk_at dksX4_order_1 18 rfl rfl)
theorem dX4_order_43 : decode cX4_order 43 = .ok (.getfield 39, 3) := dk_180 0 39 (dk_at dksX4_order_1 19 rfl rfl)
theorem dX4_order_46 : decode cX4_order 46 = .ok (.getfield 138, 3) := dk_180 0 138 (dk_at dksX4_order_2 0 rfl rfl)
theorem dX4_order_49 : decode cX4_order 49 = .ok (.iastore, 1) := dk_79 (dk_at dksX4_order_2 3 rfl rfl)
theorem dX4_order_50 : decode cX4_order 50 = .ok (.aload_n 0, 1) := dk_42 (dk_at dksX4_order_2 4 rfl rfl)
theorem dX4_order_51 : decode cX4_order 51 = .ok (.getfield 39, 3) := dk_180 0 39 (dk_at dksX4_order_2 5 rfl rfl)
theorem dX4_order_54 : decode cX4_order 54 = .ok (.getfield 226, 3) := dk_180 0 226 (dk_at dksX4_order_2 8 rfl rfl)
theorem dX4_order_57 : decode cX4_order 57 = .ok (.iload_n 2, 1) := dk_28 (dk_at dksX4_order_2 11 rfl rfl)
theorem dX4_order_58 : decode cX4_order 58 = .ok (.iload_n 1, 1) := dk_27 (dk_at dksX4_order_2 12 rfl rfl)
theorem dX4_order_59 : decode cX4_order 59 = .ok (.iastore, 1) := dk_79 (dk_at dksX4_order_2 13 rfl rfl)
theorem dX4_order_60 : decode cX4_order 60 = .ok (.aload_n 0, 1) := dk_42 (dk_at dksX4_order_2 14 rfl rfl)
theorem dX4_order_61 : decode cX4_order 61 = .ok (.getfield 39, 3) := dk_180 0 39 (dk_at dksX4_order_2 15 rfl rfl)
theorem dX4_order_64 : decode cX4_order 64 = .ok (.getfield 229, 3) := dk_180 0 229 (dk_at dksX4_order_2 18 rfl rfl)
theorem dX4_order_67 : decode cX4_order 67 = .ok (.iload_n 2, 1) := dk_28 (dk_at dksX4_order_2 21 rfl rfl)
theorem dX4_order_68 : decode cX4_order 68 = .ok (.aload_n 0, 1) := dk_42 (dk_at dksX4_order_2 22 rfl rfl)
theorem dX4_order_69 : decode cX4_order 69 = .ok (.invokevirtual 185, 3) := dk_182 0 185 (dk_at dksX4_order_3 0 rfl rfl)
theorem dX4_order_72 : decode cX4_order 72 = .ok (.iastore, 1) := dk_79 (dk_at dksX4_order_3 3 rfl rfl)
theorem dX4_order_73 : decode cX4_order 73 = .ok (.iload_n 1, 1) := dk_27 (dk_at dksX4_order_3 4 rfl rfl)
theorem dX4_order_74 : decode cX4_order 74 = .ok (.ifCond .ne 68, 3) := dk_154 0 68 (dk_at dksX4_order_3 5 rfl rfl)
theorem dX4_order_77 : decode cX4_order 77 = .ok (.aload_n 0, 1) := dk_42 (dk_at dksX4_order_3 8 rfl rfl)
theorem dX4_order_78 : decode cX4_order 78 = .ok (.iconst 4, 1) := dk_7 (dk_at dksX4_order_3 9 rfl rfl)
theorem dX4_order_79 : decode cX4_order 79 = .ok (.invokevirtual 164, 3) := dk_182 0 164 (dk_at dksX4_order_3 10 rfl rfl)
theorem dX4_order_82 : decode cX4_order 82 = .ok (.aload_n 0, 1) := dk_42 (dk_at dksX4_order_3 13 rfl rfl)
theorem dX4_order_83 : decode cX4_order 83 = .ok (.getfield 39, 3) := dk_180 0 39 (dk_at dksX4_order_3 14 rfl rfl)
theorem dX4_order_86 : decode cX4_order 86 = .ok (.getfield 232, 3) := dk_180 0 232 (dk_at dksX4_order_3 17 rfl rfl)
theorem dX4_order_89 : decode cX4_order 89 = .ok (.iconst 3, 1) := dk_6 (dk_at dksX4_order_3 20 rfl rfl)
theorem dX4_order_90 : decode cX4_order 90 = .ok (.iload_n 2, 1) := dk_28 (dk_at dksX4_order_3 21 rfl rfl)
theorem dX4_order_91 : decode cX4_order 91 = .ok (.imul, 1) := dk_104 (dk_at dksX4_order_3 22 rfl rfl)
theorem dX4_order_92 : decode cX4_order 92 = .ok (.aload_n 0, 1) := dk_42 (dk_at dksX4_order_3 23 rfl rfl)
theorem dX4_order_93 : decode cX4_order 93 = .ok (.invokevirtual 175, 3) := dk_182 0 175 (dk_at dksX4_order_4 0 rfl rfl)
theorem dX4_order_96 : decode cX4_order 96 = .ok (.iastore, 1) := dk_79 (dk_at dksX4_order_4 3 rfl rfl)
theorem dX4_order_97 : decode cX4_order 97 = .ok (.aload_n 0, 1) := dk_42 (dk_at dksX4_order_4 4 rfl rfl)
theorem dX4_order_98 : decode cX4_order 98 = .ok (.bipush 54, 2) := dk_16 54 (dk_at dksX4_order_4 5 rfl rfl)
theorem dX4_order_100 : decode cX4_order 100 = .ok (.invokevirtual 164, 3) := dk_182 0 164 (dk_at dksX4_order_4 7 rfl rfl)
theorem dX4_order_103 : decode cX4_order 103 = .ok (.aload_n 0, 1) := dk_42 (dk_at dksX4_order_4 10 rfl rfl)
theorem dX4_order_104 : decode cX4_order 104 = .ok (.getfield 39, 3) := dk_180 0 39 (dk_at dksX4_order_4 11 rfl rfl)
theorem dX4_order_107 : decode cX4_order 107 = .ok (.getfield 232, 3) := dk_180 0 232 (dk_at dksX4_order_4 14 rfl rfl)
theorem dX4_order_110 : decode cX4_order 110 = .ok (.iconst 3, 1) := dk_6 (dk_at dksX4_order_4 17 rfl rfl)
theorem dX4_order_111 : decode cX4_order 111 = .ok (.iload_n 2, 1) := dk_28 (dk_at dksX4_order_4 18 rfl rfl)
theorem dX4_order_112 : decode cX4_order 112 = .ok (.imul, 1) := dk_104 (dk_at dksX4_order_4 19 rfl rfl)
theorem dX4_order_113 : decode cX4_order 113 = .ok (.iconst 1, 1) := dk_4 (dk_at dksX4_order_4 20 rfl rfl)
theorem dX4_order_114 : decode cX4_order 114 = .ok (.iadd, 1) := dk_96 (dk_at dksX4_order_4 21 rfl rfl)
theorem dX4_order_115 : decode cX4_order 115 = .ok (.aload_n 0, 1) := dk_42 (dk_at dksX4_order_4 22 rfl rfl)
theorem dX4_order_116 : decode cX4_order 116 = .ok (.invokevirtual 175, 3) := dk_182 0 175 (dk_at dksX4_order_5 0 rfl rfl)
theorem dX4_order_119 : decode cX4_order 119 = .ok (.iastore, 1) := dk_79 (dk_at dksX4_order_5 3 rfl rfl)
theorem dX4_order_120 : decode cX4_order 120 = .ok (.aload_n 0, 1) := dk_42 (dk_at dksX4_order_5 4 rfl rfl)
theorem dX4_order_121 : decode cX4_order 121 = .ok (.iconst 5, 1) := dk_8 (dk_at dksX4_order_5 5 rfl rfl)
theorem dX4_order_122 : decode cX4_order 122 = .ok (.invokevirtual 164, 3) := dk_182 0 164 (dk_at dksX4_order_5 6 rfl rfl)
theorem dX4_order_125 : decode cX4_order 125 = .ok (.aload_n 0, 1) := dk_42 (dk_at dksX4_order_5 9 rfl rfl)
theorem dX4_order_126 : decode cX4_order 126 = .ok (.getfield 39, 3) := dk_180 0 39 (dk_at dksX4_order_5 10 rfl rfl)
theorem dX4_order_129 : decode cX4_order 129 = .ok (.getfield 232, 3) := dk_180 0 232 (dk_at dksX4_order_5 13 rfl rfl)
theorem dX4_order_132 : decode cX4_order 132 = .ok (.iconst 3, 1) := dk_6 (dk_at dksX4_order_5 16 rfl rfl)
theorem dX4_order_133 : decode cX4_order 133 = .ok (.iload_n 2, 1) := dk_28 (dk_at dksX4_order_5 17 rfl rfl)
theorem dX4_order_134 : decode cX4_order 134 = .ok (.imul, 1) := dk_104 (dk_at dksX4_order_5 18 rfl rfl)
theorem dX4_order_135 : decode cX4_order 135 = .ok (.iconst 2, 1) := dk_5 (dk_at dksX4_order_5 19 rfl rfl)
theorem dX4_order_136 : decode cX4_order 136 = .ok (.iadd, 1) := dk_96 (dk_at dksX4_order_5 20 rfl rfl)
theorem dX4_order_137 : decode cX4_order 137 = .ok (.aload_n 0, 1) := dk_42 (dk_at dksX4_order_5 21 rfl rfl)
theorem dX4_order_138 : decode cX4_order 138 = .ok (.invokevirtual 175, 3) := dk_182 0 175 (dk_at dksX4_order_6 0 rfl rfl)
theorem dX4_order_141 : decode cX4_order 141 = .ok (.iastore, 1) := dk_79 (dk_at dksX4_order_6 3 rfl rfl)
theorem dX4_order_142 : decode cX4_order 142 = .ok (.aload_n 0, 1) := dk_42 (dk_at dksX4_order_6 4 rfl rfl)
theorem dX4_order_143 : decode cX4_order 143 = .ok (.getfield 39, 3) := dk_180 0 39 (dk_at dksX4_order_6 5 rfl rfl)
theorem dX4_order_146 : decode cX4_order 146 = .ok (.getfield 235, 3) := dk_180 0 235 (dk_at dksX4_order_6 8 rfl rfl)
theorem dX4_order_149 : decode cX4_order 149 = .ok (.iload_n 2, 1) := dk_28 (dk_at dksX4_order_6 11 rfl rfl)
theorem dX4_order_150 : decode cX4_order 150 = .ok (.aload_n 0, 1) := dk_42 (dk_at dksX4_order_6 12 rfl rfl)
theorem dX4_order_151 : decode cX4_order 151 = .ok (.bipush 8, 2) := dk_16 8 (dk_at dksX4_order_6 13 rfl rfl)
theorem dX4_order_153 : decode cX4_order 153 = .ok (.invokevirtual 182, 3) := dk_182 0 182 (dk_at dksX4_order_6 15 rfl rfl)
theorem dX4_order_156 : decode cX4_order 156 = .ok (.ifCond .eq 10, 3) := dk_153 0 10 (dk_at dksX4_order_6 18 rfl rfl)
theorem dX4_order_159 : decode cX4_order 159 = .ok (.aload_n 0, 1) := dk_42 (dk_at dksX4_order_6 21 rfl rfl)
theorem dX4_order_160 : decode cX4_order 160 = .ok (.invokevirtual 202, 3) := dk_182 0 202 (dk_at dksX4_order_7 0 rfl rfl)
theorem dX4_order_163 : decode cX4_order 163 = .ok (.goto 4, 3) := dk_167 0 4 (dk_at dksX4_order_7 3 rfl rfl)
theorem dX4_order_166 : decode cX4_order 166 = .ok (.iconst (-1), 1) := dk_2 (dk_at dksX4_order_7 6 rfl rfl)
theorem dX4_order_167 : decode cX4_order 167 = .ok (.iastore, 1) := dk_79 (dk_at dksX4_order_7 7 rfl rfl)
theorem dX4_order_168 : decode cX4_order 168 = .ok (.aload_n 0, 1) := dk_42 (dk_at dksX4_order_7 8 rfl rfl)
theorem dX4_order_169 : decode cX4_order 169 = .ok (.getfield 39, 3) := dk_180 0 39 (dk_at dksX4_order_7 9 rfl rfl)
theorem dX4_order_172 : decode cX4_order 172 = .ok (.getfield 237, 3) := dk_180 0 237 (dk_at dksX4_order_7 12 rfl rfl)
theorem dX4_order_175 : decode cX4_order 175 = .ok (.iload_n 2, 1) := dk_28 (dk_at dksX4_order_7 15 rfl rfl)
theorem dX4_order_176 : decode cX4_order 176 = .ok (.aload_n 0, 1) := dk_42 (dk_at dksX4_order_7 16 rfl rfl)
theorem dX4_order_177 : decode cX4_order 177 = .ok (.getfield 39, 3) := dk_180 0 39 (dk_at dksX4_order_7 17 rfl rfl)
theorem dX4_order_180 : decode cX4_order 180 = .ok (.getfield 138, 3) := dk_180 0 138 (dk_at dksX4_order_7 20 rfl rfl)
theorem dX4_order_183 : decode cX4_order 183 = .ok (.iastore, 1) := dk_79 (dk_at dksX4_order_7 23 rfl rfl)
theorem dX4_order_184 : decode cX4_order 184 = .ok (.aload_n 0, 1) := dk_42 (dk_at dksX4_order_8 0 rfl rfl)
theorem dX4_order_185 : decode cX4_order 185 = .ok (.getfield 39, 3) := dk_180 0 39 (dk_at dksX4_order_8 1 rfl rfl)
theorem dX4_order_188 : decode cX4_order 188 = .ok (.bipush 16, 2) := dk_16 16 (dk_at dksX4_order_8 4 rfl rfl)
theorem dX4_order_190 : decode cX4_order 190 = .ok (.iload_n 2, 1) := dk_28 (dk_at dksX4_order_8 6 rfl rfl)
theorem dX4_order_191 : decode cX4_order 191 = .ok (.iconst 1, 1) := dk_4 (dk_at dksX4_order_8 7 rfl rfl)
theorem dX4_order_192 : decode cX4_order 192 = .ok (.iadd, 1) := dk_96 (dk_at dksX4_order_8 8 rfl rfl)
theorem dX4_order_193 : decode cX4_order 193 = .ok (.invokestatic 211, 3) := dk_184 0 211 (dk_at dksX4_order_8 9 rfl rfl)
theorem dX4_order_196 : decode cX4_order 196 = .ok (.putfield 220, 3) := dk_181 0 220 (dk_at dksX4_order_8 12 rfl rfl)
theorem dX4_order_199 : decode cX4_order 199 = .ok (.return_, 1) := dk_177 (dk_at dksX4_order_8 15 rfl rfl)
abbrev cX4_name : ByteArray := prog_45_method_25_code
def yX4_name : MethodName := ⟨RX4, "name", "()I"⟩
def dkwX4_name_1 : List UInt8 := [6, 182, 0, 160, 42, 16, 30, 182, 0, 164, 3, 27, 184, 0, 167, 172]
abbrev dktX4_name_1 : List UInt8 := dkwX4_name_1 ++ []
def dkwX4_name_0 : List UInt8 := [42, 16, 30, 182, 0, 129, 153, 0, 10, 42, 182, 0, 157, 167, 0, 4, 3, 60, 27, 2, 160, 0, 8, 42]
abbrev dktX4_name_0 : List UInt8 := dkwX4_name_0 ++ dktX4_name_1
theorem dksX4_name_0 : cX4_name.data.toList.drop 0 = dktX4_name_0 := by decide +kernel
theorem dksX4_name_1 : cX4_name.data.toList.drop 24 = dktX4_name_1 := dk_seg dksX4_name_0 24 rfl rfl
theorem dX4_name_0 : decode cX4_name 0 = .ok (.aload_n 0, 1) := dk_42 (dk_at dksX4_name_0 0 rfl rfl)
theorem dX4_name_1 : decode cX4_name 1 = .ok (.bipush 30, 2) := dk_16 30 (dk_at dksX4_name_0 1 rfl rfl)
theorem dX4_name_3 : decode cX4_name 3 = .ok (.invokevirtual 129, 3) := dk_182 0 129 (dk_at dksX4_name_0 3 rfl rfl)
theorem dX4_name_6 : decode cX4_name 6 = .ok (.ifCond .eq 10, 3) := dk_153 0 10 (dk_at dksX4_name_0 6 rfl rfl)
theorem dX4_name_9 : decode cX4_name 9 = .ok (.aload_n 0, 1) := dk_42 (dk_at dksX4_name_0 9 rfl rfl)
theorem dX4_name_10 : decode cX4_name 10 = .ok (.invokevirtual 157, 3) := dk_182 0 157 (dk_at dksX4_name_0 10 rfl rfl)
theorem dX4_name_13 : decode cX4_name 13 = .ok (.goto 4, 3) := dk_167 0 4 (dk_at dksX4_name_0 13 rfl rfl)
theorem dX4_name_16 : decode cX4_name 16 = .ok (.iconst 0, 1) := dk_3 (dk_at dksX4_name_0 16 rfl rfl)
theorem dX4_name_17 : decode cX4_name 17 = .ok (.istore_n 1, 1) := dk_60 (dk_at dksX4_name_0 17 rfl rfl)
theorem dX4_name_18 : decode cX4_name 18 = .ok (.iload_n 1, 1) := dk_27 (dk_at dksX4_name_0 18 rfl rfl)
theorem dX4_name_19 : decode cX4_name 19 = .ok (.iconst (-1), 1) := dk_2 (dk_at dksX4_name_0 19 rfl rfl)
theorem dX4_name_20 : decode cX4_name 20 = .ok (.if_icmp .ne 8, 3) := dk_160 0 8 (dk_at dksX4_name_0 20 rfl rfl)
theorem dX4_name_23 : decode cX4_name 23 = .ok (.aload_n 0, 1) := dk_42 (dk_at dksX4_name_0 23 rfl rfl)
theorem dX4_name_24 : decode cX4_name 24 = .ok (.iconst 3, 1) := dk_6 (dk_at dksX4_name_1 0 rfl rfl)
theorem dX4_name_25 : decode cX4_name 25 = .ok (.invokevirtual 160, 3) := dk_182 0 160 (dk_at dksX4_name_1 1 rfl rfl)
theorem dX4_name_28 : decode cX4_name 28 = .ok (.aload_n 0, 1) := dk_42 (dk_at dksX4_name_1 4 rfl rfl)
theorem dX4_name_29 : decode cX4_name 29 = .ok (.bipush 30, 2) := dk_16 30 (dk_at dksX4_name_1 5 rfl rfl)
theorem dX4_name_31 : decode cX4_name 31 = .ok (.invokevirtual 164, 3) := dk_182 0 164 (dk_at dksX4_name_1 7 rfl rfl)
theorem dX4_name_34 : decode cX4_name 34 = .ok (.iconst 0, 1) := dk_3 (dk_at dksX4_name_1 10 rfl rfl)
theorem dX4_name_35 : decode cX4_name 35 = .ok (.iload_n 1, 1) := dk_27 (dk_at dksX4_name_1 11 rfl rfl)
theorem dX4_name_36 : decode cX4_name 36 = .ok (.invokestatic 167, 3) := dk_184 0 167 (dk_at dksX4_name_1 12 rfl rfl)
theorem dX4_name_39 : decode cX4_name 39 = .ok (.ireturn, 1) := dk_172 (dk_at dksX4_name_1 15 rfl rfl)
abbrev cX4_sum : ByteArray := prog_45_method_30_code
def yX4_sum : MethodName := ⟨RX4, "sum", "()I"⟩
def dkwX4_sum_2 : List UInt8 := [182, 0, 196, 182, 0, 178, 60, 167, 255, 207, 27, 172]
abbrev dktX4_sum_2 : List UInt8 := dkwX4_sum_2 ++ []
def dkwX4_sum_1 : List UInt8 := [180, 0, 17, 42, 180, 0, 120, 46, 61, 42, 89, 180, 0, 120, 4, 96, 181, 0, 120, 42, 28, 27, 42]
abbrev dktX4_sum_1 : List UInt8 := dkwX4_sum_1 ++ dktX4_sum_2
def dkwX4_sum_0 : List UInt8 := [42, 182, 0, 196, 60, 42, 16, 40, 182, 0, 129, 154, 0, 12, 42, 16, 41, 182, 0, 129, 153, 0, 37, 42]
abbrev dktX4_sum_0 : List UInt8 := dkwX4_sum_0 ++ dktX4_sum_1
theorem dksX4_sum_0 : cX4_sum.data.toList.drop 0 = dktX4_sum_0 := by decide +kernel
theorem dksX4_sum_1 : cX4_sum.data.toList.drop 24 = dktX4_sum_1 := dk_seg dksX4_sum_0 24 rfl rfl
theorem dksX4_sum_2 : cX4_sum.data.toList.drop 47 = dktX4_sum_2 := dk_seg dksX4_sum_1 23 rfl rfl
theorem dX4_sum_0 : decode cX4_sum 0 = .ok (.aload_n 0, 1) := dk_42 (dk_at dksX4_sum_0 0 rfl rfl)
theorem dX4_sum_1 : decode cX4_sum 1 = .ok (.invokevirtual 196, 3) := dk_182 0 196 (dk_at dksX4_sum_0 1 rfl rfl)
theorem dX4_sum_4 : decode cX4_sum 4 = .ok (.istore_n 1, 1) := dk_60 (dk_at dksX4_sum_0 4 rfl rfl)
theorem dX4_sum_5 : decode cX4_sum 5 = .ok (.aload_n 0, 1) := dk_42 (dk_at dksX4_sum_0 5 rfl rfl)
theorem dX4_sum_6 : decode cX4_sum 6 = .ok (.bipush 40, 2) := dk_16 40 (dk_at dksX4_sum_0 6 rfl rfl)
theorem dX4_sum_8 : decode cX4_sum 8 = .ok (.invokevirtual 129, 3) := dk_182 0 129 (dk_at dksX4_sum_0 8 rfl rfl)
theorem dX4_sum_11 : decode cX4_sum 11 = .ok (.ifCond .ne 12, 3) := dk_154 0 12 (dk_at dksX4_sum_0 11 rfl rfl)
theorem dX4_sum_14 : decode cX4_sum 14 = .ok (.aload_n 0, 1) := dk_42 (dk_at dksX4_sum_0 14 rfl rfl)
theorem dX4_sum_15 : decode cX4_sum 15 = .ok (.bipush 41, 2) := dk_16 41 (dk_at dksX4_sum_0 15 rfl rfl)
theorem dX4_sum_17 : decode cX4_sum 17 = .ok (.invokevirtual 129, 3) := dk_182 0 129 (dk_at dksX4_sum_0 17 rfl rfl)
theorem dX4_sum_20 : decode cX4_sum 20 = .ok (.ifCond .eq 37, 3) := dk_153 0 37 (dk_at dksX4_sum_0 20 rfl rfl)
theorem dX4_sum_23 : decode cX4_sum 23 = .ok (.aload_n 0, 1) := dk_42 (dk_at dksX4_sum_0 23 rfl rfl)
theorem dX4_sum_24 : decode cX4_sum 24 = .ok (.getfield 17, 3) := dk_180 0 17 (dk_at dksX4_sum_1 0 rfl rfl)
theorem dX4_sum_27 : decode cX4_sum 27 = .ok (.aload_n 0, 1) := dk_42 (dk_at dksX4_sum_1 3 rfl rfl)
theorem dX4_sum_28 : decode cX4_sum 28 = .ok (.getfield 120, 3) := dk_180 0 120 (dk_at dksX4_sum_1 4 rfl rfl)
theorem dX4_sum_31 : decode cX4_sum 31 = .ok (.iaload, 1) := dk_46 (dk_at dksX4_sum_1 7 rfl rfl)
theorem dX4_sum_32 : decode cX4_sum 32 = .ok (.istore_n 2, 1) := dk_61 (dk_at dksX4_sum_1 8 rfl rfl)
theorem dX4_sum_33 : decode cX4_sum 33 = .ok (.aload_n 0, 1) := dk_42 (dk_at dksX4_sum_1 9 rfl rfl)
theorem dX4_sum_34 : decode cX4_sum 34 = .ok (.dup, 1) := dk_89 (dk_at dksX4_sum_1 10 rfl rfl)
theorem dX4_sum_35 : decode cX4_sum 35 = .ok (.getfield 120, 3) := dk_180 0 120 (dk_at dksX4_sum_1 11 rfl rfl)
theorem dX4_sum_38 : decode cX4_sum 38 = .ok (.iconst 1, 1) := dk_4 (dk_at dksX4_sum_1 14 rfl rfl)
theorem dX4_sum_39 : decode cX4_sum 39 = .ok (.iadd, 1) := dk_96 (dk_at dksX4_sum_1 15 rfl rfl)
theorem dX4_sum_40 : decode cX4_sum 40 = .ok (.putfield 120, 3) := dk_181 0 120 (dk_at dksX4_sum_1 16 rfl rfl)
theorem dX4_sum_43 : decode cX4_sum 43 = .ok (.aload_n 0, 1) := dk_42 (dk_at dksX4_sum_1 19 rfl rfl)
theorem dX4_sum_44 : decode cX4_sum 44 = .ok (.iload_n 2, 1) := dk_28 (dk_at dksX4_sum_1 20 rfl rfl)
theorem dX4_sum_45 : decode cX4_sum 45 = .ok (.iload_n 1, 1) := dk_27 (dk_at dksX4_sum_1 21 rfl rfl)
theorem dX4_sum_46 : decode cX4_sum 46 = .ok (.aload_n 0, 1) := dk_42 (dk_at dksX4_sum_1 22 rfl rfl)
theorem dX4_sum_47 : decode cX4_sum 47 = .ok (.invokevirtual 196, 3) := dk_182 0 196 (dk_at dksX4_sum_2 0 rfl rfl)
theorem dX4_sum_50 : decode cX4_sum 50 = .ok (.invokevirtual 178, 3) := dk_182 0 178 (dk_at dksX4_sum_2 3 rfl rfl)
theorem dX4_sum_53 : decode cX4_sum 53 = .ok (.istore_n 1, 1) := dk_60 (dk_at dksX4_sum_2 6 rfl rfl)
theorem dX4_sum_54 : decode cX4_sum 54 = .ok (.goto (-49), 3) := dk_167 255 207 (dk_at dksX4_sum_2 7 rfl rfl)
theorem dX4_sum_57 : decode cX4_sum 57 = .ok (.iload_n 1, 1) := dk_27 (dk_at dksX4_sum_2 10 rfl rfl)
theorem dX4_sum_58 : decode cX4_sum 58 = .ok (.ireturn, 1) := dk_172 (dk_at dksX4_sum_2 11 rfl rfl)
abbrev cX4_product : ByteArray := prog_45_method_29_code
def yX4_product : MethodName := ⟨RX4, "product", "()I"⟩
def dkwX4_product_2 : List UInt8 := [182, 0, 194, 182, 0, 178, 60, 167, 255, 207, 27, 172]
abbrev dktX4_product_2 : List UInt8 := dkwX4_product_2 ++ []
def dkwX4_product_1 : List UInt8 := [180, 0, 17, 42, 180, 0, 120, 46, 61, 42, 89, 180, 0, 120, 4, 96, 181, 0, 120, 42, 28, 27, 42]
abbrev dktX4_product_1 : List UInt8 := dkwX4_product_1 ++ dktX4_product_2
def dkwX4_product_0 : List UInt8 := [42, 182, 0, 194, 60, 42, 16, 42, 182, 0, 129, 154, 0, 12, 42, 16, 43, 182, 0, 129, 153, 0, 37, 42]
abbrev dktX4_product_0 : List UInt8 := dkwX4_product_0 ++ dktX4_product_1
theorem dksX4_product_0 : cX4_product.data.toList.drop 0 = dktX4_product_0 := by decide +kernel
theorem dksX4_product_1 : cX4_product.data.toList.drop 24 = dktX4_product_1 := dk_seg dksX4_product_0 24 rfl rfl
theorem dksX4_product_2 : cX4_product.data.toList.drop 47 = dktX4_product_2 := dk_seg dksX4_product_1 23 rfl rfl
theorem dX4_product_0 : decode cX4_product 0 = .ok (.aload_n 0, 1) := dk_42 (dk_at dksX4_product_0 0 rfl rfl)
theorem dX4_product_1 : decode cX4_product 1 = .ok (.invokevirtual 194, 3) := dk_182 0 194 (dk_at dksX4_product_0 1 rfl rfl)
theorem dX4_product_4 : decode cX4_product 4 = .ok (.istore_n 1, 1) := dk_60 (dk_at dksX4_product_0 4 rfl rfl)
theorem dX4_product_5 : decode cX4_product 5 = .ok (.aload_n 0, 1) := dk_42 (dk_at dksX4_product_0 5 rfl rfl)
theorem dX4_product_6 : decode cX4_product 6 = .ok (.bipush 42, 2) := dk_16 42 (dk_at dksX4_product_0 6 rfl rfl)
theorem dX4_product_8 : decode cX4_product 8 = .ok (.invokevirtual 129, 3) := dk_182 0 129 (dk_at dksX4_product_0 8 rfl rfl)
theorem dX4_product_11 : decode cX4_product 11 = .ok (.ifCond .ne 12, 3) := dk_154 0 12 (dk_at dksX4_product_0 11 rfl rfl)
theorem dX4_product_14 : decode cX4_product 14 = .ok (.aload_n 0, 1) := dk_42 (dk_at dksX4_product_0 14 rfl rfl)
theorem dX4_product_15 : decode cX4_product 15 = .ok (.bipush 43, 2) := dk_16 43 (dk_at dksX4_product_0 15 rfl rfl)
theorem dX4_product_17 : decode cX4_product 17 = .ok (.invokevirtual 129, 3) := dk_182 0 129 (dk_at dksX4_product_0 17 rfl rfl)
theorem dX4_product_20 : decode cX4_product 20 = .ok (.ifCond .eq 37, 3) := dk_153 0 37 (dk_at dksX4_product_0 20 rfl rfl)
theorem dX4_product_23 : decode cX4_product 23 = .ok (.aload_n 0, 1) := dk_42 (dk_at dksX4_product_0 23 rfl rfl)
theorem dX4_product_24 : decode cX4_product 24 = .ok (.getfield 17, 3) := dk_180 0 17 (dk_at dksX4_product_1 0 rfl rfl)
theorem dX4_product_27 : decode cX4_product 27 = .ok (.aload_n 0, 1) := dk_42 (dk_at dksX4_product_1 3 rfl rfl)
theorem dX4_product_28 : decode cX4_product 28 = .ok (.getfield 120, 3) := dk_180 0 120 (dk_at dksX4_product_1 4 rfl rfl)
theorem dX4_product_31 : decode cX4_product 31 = .ok (.iaload, 1) := dk_46 (dk_at dksX4_product_1 7 rfl rfl)
theorem dX4_product_32 : decode cX4_product 32 = .ok (.istore_n 2, 1) := dk_61 (dk_at dksX4_product_1 8 rfl rfl)
theorem dX4_product_33 : decode cX4_product 33 = .ok (.aload_n 0, 1) := dk_42 (dk_at dksX4_product_1 9 rfl rfl)
theorem dX4_product_34 : decode cX4_product 34 = .ok (.dup, 1) := dk_89 (dk_at dksX4_product_1 10 rfl rfl)
theorem dX4_product_35 : decode cX4_product 35 = .ok (.getfield 120, 3) := dk_180 0 120 (dk_at dksX4_product_1 11 rfl rfl)
theorem dX4_product_38 : decode cX4_product 38 = .ok (.iconst 1, 1) := dk_4 (dk_at dksX4_product_1 14 rfl rfl)
theorem dX4_product_39 : decode cX4_product 39 = .ok (.iadd, 1) := dk_96 (dk_at dksX4_product_1 15 rfl rfl)
theorem dX4_product_40 : decode cX4_product 40 = .ok (.putfield 120, 3) := dk_181 0 120 (dk_at dksX4_product_1 16 rfl rfl)
theorem dX4_product_43 : decode cX4_product 43 = .ok (.aload_n 0, 1) := dk_42 (dk_at dksX4_product_1 19 rfl rfl)
theorem dX4_product_44 : decode cX4_product 44 = .ok (.iload_n 2, 1) := dk_28 (dk_at dksX4_product_1 20 rfl rfl)
theorem dX4_product_45 : decode cX4_product 45 = .ok (.iload_n 1, 1) := dk_27 (dk_at dksX4_product_1 21 rfl rfl)
theorem dX4_product_46 : decode cX4_product 46 = .ok (.aload_n 0, 1) := dk_42 (dk_at dksX4_product_1 22 rfl rfl)
theorem dX4_product_47 : decode cX4_product 47 = .ok (.invokevirtual 194, 3) := dk_182 0 194 (dk_at dksX4_product_2 0 rfl rfl)
theorem dX4_product_50 : decode cX4_product 50 = .ok (.invokevirtual 178, 3) := dk_182 0 178 (dk_at dksX4_product_2 3 rfl rfl)
theorem dX4_product_53 : decode cX4_product 53 = .ok (.istore_n 1, 1) := dk_60 (dk_at dksX4_product_2 6 rfl rfl)
theorem dX4_product_54 : decode cX4_product 54 = .ok (.goto (-49), 3) := dk_167 255 207 (dk_at dksX4_product_2 7 rfl rfl)
theorem dX4_product_57 : decode cX4_product 57 = .ok (.iload_n 1, 1) := dk_27 (dk_at dksX4_product_2 10 rfl rfl)
theorem dX4_product_58 : decode cX4_product 58 = .ok (.ireturn, 1) := dk_172 (dk_at dksX4_product_2 11 rfl rfl)
abbrev cX4_value : ByteArray := prog_45_method_28_code
def yX4_value : MethodName := ⟨RX4, "value", "()I"⟩
def dkwX4_value_7 : List UInt8 := [182, 0, 194, 60, 42, 89, 180, 0, 135, 4, 100, 181, 0, 135, 42, 16, 60, 27, 3, 182, 0, 178, 172]
abbrev dktX4_value_7 : List UInt8 := dkwX4_value_7 ++ []
def dkwX4_value_6 : List UInt8 := [182, 0, 191, 172, 42, 16, 41, 182, 0, 129, 154, 0, 9, 42, 182, 0, 132, 3, 172, 42, 182, 0, 172, 42]
abbrev dktX4_value_6 : List UInt8 := dkwX4_value_6 ++ dktX4_value_7
def dkwX4_value_5 : List UInt8 := [180, 0, 17, 42, 180, 0, 120, 46, 182, 0, 188, 172, 42, 16, 49, 182, 0, 129, 153, 0, 8, 42]
abbrev dktX4_value_5 : List UInt8 := dkwX4_value_5 ++ dktX4_value_6
def dkwX4_value_4 : List UInt8 := [182, 0, 178, 172, 42, 16, 22, 182, 0, 129, 154, 0, 12, 42, 16, 23, 182, 0, 129, 153, 0, 17, 42, 42]
abbrev dktX4_value_4 : List UInt8 := dkwX4_value_4 ++ dktX4_value_5
def dkwX4_value_3 : List UInt8 := [16, 15, 182, 0, 182, 153, 0, 21, 42, 16, 16, 182, 0, 164, 42, 16, 15, 42, 182, 0, 185, 3]
abbrev dktX4_value_3 : List UInt8 := dkwX4_value_3 ++ dktX4_value_4
def dkwX4_value_2 : List UInt8 := [42, 27, 182, 0, 182, 153, 0, 11, 42, 27, 3, 3, 182, 0, 178, 172, 132, 1, 1, 167, 255, 231, 42]
abbrev dktX4_value_2 : List UInt8 := dkwX4_value_2 ++ dktX4_value_3
def dkwX4_value_1 : List UInt8 := [180, 0, 20, 42, 180, 0, 120, 4, 100, 46, 3, 182, 0, 178, 172, 16, 9, 60, 27, 16, 14, 163, 0, 25]
abbrev dktX4_value_1 : List UInt8 := dkwX4_value_1 ++ dktX4_value_2
def dkwX4_value_0 : List UInt8 := [42, 16, 31, 182, 0, 129, 153, 0, 32, 42, 89, 180, 0, 120, 4, 96, 181, 0, 120, 42, 16, 31, 42]
abbrev dktX4_value_0 : List UInt8 := dkwX4_value_0 ++ dktX4_value_1
theorem dksX4_value_0 : cX4_value.data.toList.drop 0 = dktX4_value_0 := by decide +kernel
theorem dksX4_value_1 : cX4_value.data.toList.drop 23 = dktX4_value_1 := dk_seg dksX4_value_0 23 rfl rfl
theorem dksX4_value_2 : cX4_value.data.toList.drop 47 = dktX4_value_2 := dk_seg dksX4_value_1 24 rfl rfl
theorem dksX4_value_3 : cX4_value.data.toList.drop 70 = dktX4_value_3 := dk_seg dksX4_value_2 23 rfl rfl
theorem dksX4_value_4 : cX4_value.data.toList.drop 92 = dktX4_value_4 := dk_seg dksX4_value_3 22 rfl rfl
theorem dksX4_value_5 : cX4_value.data.toList.drop 116 = dktX4_value_5 := dk_seg dksX4_value_4 24 rfl rfl
theorem dksX4_value_6 : cX4_value.data.toList.drop 138 = dktX4_value_6 := dk_seg dksX4_value_5 22 rfl rfl
theorem dksX4_value_7 : cX4_value.data.toList.drop 162 = dktX4_value_7 := dk_seg dksX4_value_6 24 rfl rfl
theorem dX4_value_0 : decode cX4_value 0 = .ok (.aload_n 0, 1) := dk_42 (dk_at dksX4_value_0 0 rfl rfl)
theorem dX4_value_1 : decode cX4_value 1 = .ok (.bipush 31, 2) := dk_16 31 (dk_at dksX4_value_0 1 rfl rfl)
theorem dX4_value_3 : decode cX4_value 3 = .ok (.invokevirtual 129, 3) := dk_182 0 129 (dk_at dksX4_value_0 3 rfl rfl)
theorem dX4_value_6 : decode cX4_value 6 = .ok (.ifCond .eq 32, 3) := dk_153 0 32 (dk_at dksX4_value_0 6 rfl rfl)
theorem dX4_value_9 : decode cX4_value 9 = .ok (.aload_n 0, 1) := dk_42 (dk_at dksX4_value_0 9 rfl rfl)
theorem dX4_value_10 : decode cX4_value 10 = .ok (.dup, 1) := dk_89 (dk_at dksX4_value_0 10 rfl rfl)
theorem dX4_value_11 : decode cX4_value 11 = .ok (.getfield 120, 3) := dk_180 0 120 (dk_at dksX4_value_0 11 rfl rfl)
theorem dX4_value_14 : decode cX4_value 14 = .ok (.iconst 1, 1) := dk_4 (dk_at dksX4_value_0 14 rfl rfl)
theorem dX4_value_15 : decode cX4_value 15 = .ok (.iadd, 1) := dk_96 (dk_at dksX4_value_0 15 rfl rfl)
theorem dX4_value_16 : decode cX4_value 16 = .ok (.putfield 120, 3) := dk_181 0 120 (dk_at dksX4_value_0 16 rfl rfl)
theorem dX4_value_19 : decode cX4_value 19 = .ok (.aload_n 0, 1) := dk_42 (dk_at dksX4_value_0 19 rfl rfl)
theorem dX4_value_20 : decode cX4_value 20 = .ok (.bipush 31, 2) := dk_16 31 (dk_at dksX4_value_0 20 rfl rfl)
theorem dX4_value_22 : decode cX4_value 22 = .ok (.aload_n 0, 1) := dk_42 (dk_at dksX4_value_0 22 rfl rfl)
theorem dX4_value_23 : decode cX4_value 23 = .ok (.getfield 20, 3) := dk_180 0 20 (dk_at dksX4_value_1 0 rfl rfl)
theorem dX4_value_26 : decode cX4_value 26 = .ok (.aload_n 0, 1) := dk_42 (dk_at dksX4_value_1 3 rfl rfl)
theorem dX4_value_27 : decode cX4_value 27 = .ok (.getfield 120, 3) := dk_180 0 120 (dk_at dksX4_value_1 4 rfl rfl)
theorem dX4_value_30 : decode cX4_value 30 = .ok (.iconst 1, 1) := dk_4 (dk_at dksX4_value_1 7 rfl rfl)
theorem dX4_value_31 : decode cX4_value 31 = .ok (.isub, 1) := dk_100 (dk_at dksX4_value_1 8 rfl rfl)
theorem dX4_value_32 : decode cX4_value 32 = .ok (.iaload, 1) := dk_46 (dk_at dksX4_value_1 9 rfl rfl)
theorem dX4_value_33 : decode cX4_value 33 = .ok (.iconst 0, 1) := dk_3 (dk_at dksX4_value_1 10 rfl rfl)
theorem dX4_value_34 : decode cX4_value 34 = .ok (.invokevirtual 178, 3) := dk_182 0 178 (dk_at dksX4_value_1 11 rfl rfl)
theorem dX4_value_37 : decode cX4_value 37 = .ok (.ireturn, 1) := dk_172 (dk_at dksX4_value_1 14 rfl rfl)
theorem dX4_value_38 : decode cX4_value 38 = .ok (.bipush 9, 2) := dk_16 9 (dk_at dksX4_value_1 15 rfl rfl)
theorem dX4_value_40 : decode cX4_value 40 = .ok (.istore_n 1, 1) := dk_60 (dk_at dksX4_value_1 17 rfl rfl)
theorem dX4_value_41 : decode cX4_value 41 = .ok (.iload_n 1, 1) := dk_27 (dk_at dksX4_value_1 18 rfl rfl)
theorem dX4_value_42 : decode cX4_value 42 = .ok (.bipush 14, 2) := dk_16 14 (dk_at dksX4_value_1 19 rfl rfl)
theorem dX4_value_44 : decode cX4_value 44 = .ok (.if_icmp .gt 25, 3) := dk_163 0 25 (dk_at dksX4_value_1 21 rfl rfl)
theorem dX4_value_47 : decode cX4_value 47 = .ok (.aload_n 0, 1) := dk_42 (dk_at dksX4_value_2 0 rfl rfl)
theorem dX4_value_48 : decode cX4_value 48 = .ok (.iload_n 1, 1) := dk_27 (dk_at dksX4_value_2 1 rfl rfl)
theorem dX4_value_49 : decode cX4_value 49 = .ok (.invokevirtual 182, 3) := dk_182 0 182 (dk_at dksX4_value_2 2 rfl rfl)
theorem dX4_value_52 : decode cX4_value 52 = .ok (.ifCond .eq 11, 3) := dk_153 0 11 (dk_at dksX4_value_2 5 rfl rfl)
theorem dX4_value_55 : decode cX4_value 55 = .ok (.aload_n 0, 1) := dk_42 (dk_at dksX4_value_2 8 rfl rfl)
theorem dX4_value_56 : decode cX4_value 56 = .ok (.iload_n 1, 1) := dk_27 (dk_at dksX4_value_2 9 rfl rfl)
theorem dX4_value_57 : decode cX4_value 57 = .ok (.iconst 0, 1) := dk_3 (dk_at dksX4_value_2 10 rfl rfl)
theorem dX4_value_58 : decode cX4_value 58 = .ok (.iconst 0, 1) := dk_3 (dk_at dksX4_value_2 11 rfl rfl)
theorem dX4_value_59 : decode cX4_value 59 = .ok (.invokevirtual 178, 3) := dk_182 0 178 (dk_at dksX4_value_2 12 rfl rfl)
theorem dX4_value_62 : decode cX4_value 62 = .ok (.ireturn, 1) := dk_172 (dk_at dksX4_value_2 15 rfl rfl)
theorem dX4_value_63 : decode cX4_value 63 = .ok (.iinc 1 1, 3) := dk_132 1 1 (dk_at dksX4_value_2 16 rfl rfl)
theorem dX4_value_66 : decode cX4_value 66 = .ok (.goto (-25), 3) := dk_167 255 231 (dk_at dksX4_value_2 19 rfl rfl)
theorem dX4_value_69 : decode cX4_value 69 = .ok (.aload_n 0, 1) := dk_42 (dk_at dksX4_value_2 22 rfl rfl)
theorem dX4_value_70 : decode cX4_value 70 = .ok (.bipush 15, 2) := dk_16 15 (dk_at dksX4_value_3 0 rfl rfl)
theorem dX4_value_72 : decode cX4_value 72 = .ok (.invokevirtual 182, 3) := dk_182 0 182 (dk_at dksX4_value_3 2 rfl rfl)
theorem dX4_value_75 : decode cX4_value 75 = .ok (.ifCond .eq 21, 3) := dk_153 0 21 (dk_at dksX4_value_3 5 rfl rfl)
theorem dX4_value_78 : decode cX4_value 78 = .ok (.aload_n 0, 1) := dk_42 (dk_at dksX4_value_3 8 rfl rfl)
theorem dX4_value_79 : decode cX4_value 79 = .ok (.bipush 16, 2) := dk_16 16 (dk_at dksX4_value_3 9 rfl rfl)
theorem dX4_value_81 : decode cX4_value 81 = .ok (.invokevirtual 164, 3) := dk_182 0 164 (dk_at dksX4_value_3 11 rfl rfl)
theorem dX4_value_84 : decode cX4_value 84 = .ok (.aload_n 0, 1) := dk_42 (dk_at dksX4_value_3 14 rfl rfl)
theorem dX4_value_85 : decode cX4_value 85 = .ok (.bipush 15, 2) := dk_16 15 (dk_at dksX4_value_3 15 rfl rfl)
theorem dX4_value_87 : decode cX4_value 87 = .ok (.aload_n 0, 1) := dk_42 (dk_at dksX4_value_3 17 rfl rfl)
theorem dX4_value_88 : decode cX4_value 88 = .ok (.invokevirtual 185, 3) := dk_182 0 185 (dk_at dksX4_value_3 18 rfl rfl)
theorem dX4_value_91 : decode cX4_value 91 = .ok (.iconst 0, 1) := dk_3 (dk_at dksX4_value_3 21 rfl rfl)
theorem dX4_value_92 : decode cX4_value 92 = .ok (.invokevirtual 178, 3) := dk_182 0 178 (dk_at dksX4_value_4 0 rfl rfl)
theorem dX4_value_95 : decode cX4_value 95 = .ok (.ireturn, 1) := dk_172 (dk_at dksX4_value_4 3 rfl rfl)
theorem dX4_value_96 : decode cX4_value 96 = .ok (.aload_n 0, 1) := dk_42 (dk_at dksX4_value_4 4 rfl rfl)
theorem dX4_value_97 : decode cX4_value 97 = .ok (.bipush 22, 2) := dk_16 22 (dk_at dksX4_value_4 5 rfl rfl)
theorem dX4_value_99 : decode cX4_value 99 = .ok (.invokevirtual 129, 3) := dk_182 0 129 (dk_at dksX4_value_4 7 rfl rfl)
theorem dX4_value_102 : decode cX4_value 102 = .ok (.ifCond .ne 12, 3) := dk_154 0 12 (dk_at dksX4_value_4 10 rfl rfl)
theorem dX4_value_105 : decode cX4_value 105 = .ok (.aload_n 0, 1) := dk_42 (dk_at dksX4_value_4 13 rfl rfl)
theorem dX4_value_106 : decode cX4_value 106 = .ok (.bipush 23, 2) := dk_16 23 (dk_at dksX4_value_4 14 rfl rfl)
theorem dX4_value_108 : decode cX4_value 108 = .ok (.invokevirtual 129, 3) := dk_182 0 129 (dk_at dksX4_value_4 16 rfl rfl)
theorem dX4_value_111 : decode cX4_value 111 = .ok (.ifCond .eq 17, 3) := dk_153 0 17 (dk_at dksX4_value_4 19 rfl rfl)
theorem dX4_value_114 : decode cX4_value 114 = .ok (.aload_n 0, 1) := dk_42 (dk_at dksX4_value_4 22 rfl rfl)
theorem dX4_value_115 : decode cX4_value 115 = .ok (.aload_n 0, 1) := dk_42 (dk_at dksX4_value_4 23 rfl rfl)
theorem dX4_value_116 : decode cX4_value 116 = .ok (.getfield 17, 3) := dk_180 0 17 (dk_at dksX4_value_5 0 rfl rfl)
theorem dX4_value_119 : decode cX4_value 119 = .ok (.aload_n 0, 1) := dk_42 (dk_at dksX4_value_5 3 rfl rfl)
theorem dX4_value_120 : decode cX4_value 120 = .ok (.getfield 120, 3) := dk_180 0 120 (dk_at dksX4_value_5 4 rfl rfl)
theorem dX4_value_123 : decode cX4_value 123 = .ok (.iaload, 1) := dk_46 (dk_at dksX4_value_5 7 rfl rfl)
theorem dX4_value_124 : decode cX4_value 124 = .ok (.invokevirtual 188, 3) := dk_182 0 188 (dk_at dksX4_value_5 8 rfl rfl)
theorem dX4_value_127 : decode cX4_value 127 = .ok (.ireturn, 1) := dk_172 (dk_at dksX4_value_5 11 rfl rfl)
theorem dX4_value_128 : decode cX4_value 128 = .ok (.aload_n 0, 1) := dk_42 (dk_at dksX4_value_5 12 rfl rfl)
theorem dX4_value_129 : decode cX4_value 129 = .ok (.bipush 49, 2) := dk_16 49 (dk_at dksX4_value_5 13 rfl rfl)
theorem dX4_value_131 : decode cX4_value 131 = .ok (.invokevirtual 129, 3) := dk_182 0 129 (dk_at dksX4_value_5 15 rfl rfl)
theorem dX4_value_134 : decode cX4_value 134 = .ok (.ifCond .eq 8, 3) := dk_153 0 8 (dk_at dksX4_value_5 18 rfl rfl)
theorem dX4_value_137 : decode cX4_value 137 = .ok (.aload_n 0, 1) := dk_42 (dk_at dksX4_value_5 21 rfl rfl)
theorem dX4_value_138 : decode cX4_value 138 = .ok (.invokevirtual 191, 3) := dk_182 0 191 (dk_at dksX4_value_6 0 rfl rfl)
theorem dX4_value_141 : decode cX4_value 141 = .ok (.ireturn, 1) := dk_172 (dk_at dksX4_value_6 3 rfl rfl)
theorem dX4_value_142 : decode cX4_value 142 = .ok (.aload_n 0, 1) := dk_42 (dk_at dksX4_value_6 4 rfl rfl)
theorem dX4_value_143 : decode cX4_value 143 = .ok (.bipush 41, 2) := dk_16 41 (dk_at dksX4_value_6 5 rfl rfl)
theorem dX4_value_145 : decode cX4_value 145 = .ok (.invokevirtual 129, 3) := dk_182 0 129 (dk_at dksX4_value_6 7 rfl rfl)
theorem dX4_value_148 : decode cX4_value 148 = .ok (.ifCond .ne 9, 3) := dk_154 0 9 (dk_at dksX4_value_6 10 rfl rfl)
theorem dX4_value_151 : decode cX4_value 151 = .ok (.aload_n 0, 1) := dk_42 (dk_at dksX4_value_6 13 rfl rfl)
theorem dX4_value_152 : decode cX4_value 152 = .ok (.invokevirtual 132, 3) := dk_182 0 132 (dk_at dksX4_value_6 14 rfl rfl)
theorem dX4_value_155 : decode cX4_value 155 = .ok (.iconst 0, 1) := dk_3 (dk_at dksX4_value_6 17 rfl rfl)
theorem dX4_value_156 : decode cX4_value 156 = .ok (.ireturn, 1) := dk_172 (dk_at dksX4_value_6 18 rfl rfl)
theorem dX4_value_157 : decode cX4_value 157 = .ok (.aload_n 0, 1) := dk_42 (dk_at dksX4_value_6 19 rfl rfl)
theorem dX4_value_158 : decode cX4_value 158 = .ok (.invokevirtual 172, 3) := dk_182 0 172 (dk_at dksX4_value_6 20 rfl rfl)
theorem dX4_value_161 : decode cX4_value 161 = .ok (.aload_n 0, 1) := dk_42 (dk_at dksX4_value_6 23 rfl rfl)
theorem dX4_value_162 : decode cX4_value 162 = .ok (.invokevirtual 194, 3) := dk_182 0 194 (dk_at dksX4_value_7 0 rfl rfl)
theorem dX4_value_165 : decode cX4_value 165 = .ok (.istore_n 1, 1) := dk_60 (dk_at dksX4_value_7 3 rfl rfl)
theorem dX4_value_166 : decode cX4_value 166 = .ok (.aload_n 0, 1) := dk_42 (dk_at dksX4_value_7 4 rfl rfl)
theorem dX4_value_167 : decode cX4_value 167 = .ok (.dup, 1) := dk_89 (dk_at dksX4_value_7 5 rfl rfl)
theorem dX4_value_168 : decode cX4_value 168 = .ok (.getfield 135, 3) := dk_180 0 135 (dk_at dksX4_value_7 6 rfl rfl)
theorem dX4_value_171 : decode cX4_value 171 = .ok (.iconst 1, 1) := dk_4 (dk_at dksX4_value_7 9 rfl rfl)
theorem dX4_value_172 : decode cX4_value 172 = .ok (.isub, 1) := dk_100 (dk_at dksX4_value_7 10 rfl rfl)
theorem dX4_value_173 : decode cX4_value 173 = .ok (.putfield 135, 3) := dk_181 0 135 (dk_at dksX4_value_7 11 rfl rfl)
theorem dX4_value_176 : decode cX4_value 176 = .ok (.aload_n 0, 1) := dk_42 (dk_at dksX4_value_7 14 rfl rfl)
theorem dX4_value_177 : decode cX4_value 177 = .ok (.bipush 60, 2) := dk_16 60 (dk_at dksX4_value_7 15 rfl rfl)
theorem dX4_value_179 : decode cX4_value 179 = .ok (.iload_n 1, 1) := dk_27 (dk_at dksX4_value_7 17 rfl rfl)
theorem dX4_value_180 : decode cX4_value 180 = .ok (.iconst 0, 1) := dk_3 (dk_at dksX4_value_7 18 rfl rfl)
theorem dX4_value_181 : decode cX4_value 181 = .ok (.invokevirtual 178, 3) := dk_182 0 178 (dk_at dksX4_value_7 19 rfl rfl)
theorem dX4_value_184 : decode cX4_value 184 = .ok (.ireturn, 1) := dk_172 (dk_at dksX4_value_7 22 rfl rfl)
abbrev cX4_node : ByteArray := prog_45_method_22_code
def yX4_node : MethodName := ⟨RX4, "node", "(III)I"⟩
def dkwX4_node_2 : List UInt8 := [180, 0, 138, 4, 96, 181, 0, 138, 21, 4, 172]
abbrev dktX4_node_2 : List UInt8 := dkwX4_node_2 ++ []
def dkwX4_node_1 : List UInt8 := [180, 0, 144, 21, 4, 28, 79, 42, 180, 0, 39, 180, 0, 147, 21, 4, 29, 79, 42, 180, 0, 39, 89]
abbrev dktX4_node_1 : List UInt8 := dkwX4_node_1 ++ dktX4_node_2
def dkwX4_node_0 : List UInt8 := [42, 180, 0, 39, 180, 0, 138, 54, 4, 42, 180, 0, 39, 180, 0, 141, 21, 4, 27, 79, 42, 180, 0, 39]
abbrev dktX4_node_0 : List UInt8 := dkwX4_node_0 ++ dktX4_node_1
theorem dksX4_node_0 : cX4_node.data.toList.drop 0 = dktX4_node_0 := by decide +kernel
theorem dksX4_node_1 : cX4_node.data.toList.drop 24 = dktX4_node_1 := dk_seg dksX4_node_0 24 rfl rfl
theorem dksX4_node_2 : cX4_node.data.toList.drop 47 = dktX4_node_2 := dk_seg dksX4_node_1 23 rfl rfl
theorem dX4_node_0 : decode cX4_node 0 = .ok (.aload_n 0, 1) := dk_42 (dk_at dksX4_node_0 0 rfl rfl)
theorem dX4_node_1 : decode cX4_node 1 = .ok (.getfield 39, 3) := dk_180 0 39 (dk_at dksX4_node_0 1 rfl rfl)
theorem dX4_node_4 : decode cX4_node 4 = .ok (.getfield 138, 3) := dk_180 0 138 (dk_at dksX4_node_0 4 rfl rfl)
theorem dX4_node_7 : decode cX4_node 7 = .ok (.istore 4, 2) := dk_54 4 (dk_at dksX4_node_0 7 rfl rfl)
theorem dX4_node_9 : decode cX4_node 9 = .ok (.aload_n 0, 1) := dk_42 (dk_at dksX4_node_0 9 rfl rfl)
theorem dX4_node_10 : decode cX4_node 10 = .ok (.getfield 39, 3) := dk_180 0 39 (dk_at dksX4_node_0 10 rfl rfl)
theorem dX4_node_13 : decode cX4_node 13 = .ok (.getfield 141, 3) := dk_180 0 141 (dk_at dksX4_node_0 13 rfl rfl)
theorem dX4_node_16 : decode cX4_node 16 = .ok (.iload 4, 2) := dk_21 4 (dk_at dksX4_node_0 16 rfl rfl)
theorem dX4_node_18 : decode cX4_node 18 = .ok (.iload_n 1, 1) := dk_27 (dk_at dksX4_node_0 18 rfl rfl)
theorem dX4_node_19 : decode cX4_node 19 = .ok (.iastore, 1) := dk_79 (dk_at dksX4_node_0 19 rfl rfl)
theorem dX4_node_20 : decode cX4_node 20 = .ok (.aload_n 0, 1) := dk_42 (dk_at dksX4_node_0 20 rfl rfl)
theorem dX4_node_21 : decode cX4_node 21 = .ok (.getfield 39, 3) := dk_180 0 39 (dk_at dksX4_node_0 21 rfl rfl)
theorem dX4_node_24 : decode cX4_node 24 = .ok (.getfield 144, 3) := dk_180 0 144 (dk_at dksX4_node_1 0 rfl rfl)
theorem dX4_node_27 : decode cX4_node 27 = .ok (.iload 4, 2) := dk_21 4 (dk_at dksX4_node_1 3 rfl rfl)
theorem dX4_node_29 : decode cX4_node 29 = .ok (.iload_n 2, 1) := dk_28 (dk_at dksX4_node_1 5 rfl rfl)
theorem dX4_node_30 : decode cX4_node 30 = .ok (.iastore, 1) := dk_79 (dk_at dksX4_node_1 6 rfl rfl)
theorem dX4_node_31 : decode cX4_node 31 = .ok (.aload_n 0, 1) := dk_42 (dk_at dksX4_node_1 7 rfl rfl)
theorem dX4_node_32 : decode cX4_node 32 = .ok (.getfield 39, 3) := dk_180 0 39 (dk_at dksX4_node_1 8 rfl rfl)
theorem dX4_node_35 : decode cX4_node 35 = .ok (.getfield 147, 3) := dk_180 0 147 (dk_at dksX4_node_1 11 rfl rfl)
theorem dX4_node_38 : decode cX4_node 38 = .ok (.iload 4, 2) := dk_21 4 (dk_at dksX4_node_1 14 rfl rfl)
theorem dX4_node_40 : decode cX4_node 40 = .ok (.iload_n 3, 1) := dk_29 (dk_at dksX4_node_1 16 rfl rfl)
theorem dX4_node_41 : decode cX4_node 41 = .ok (.iastore, 1) := dk_79 (dk_at dksX4_node_1 17 rfl rfl)
theorem dX4_node_42 : decode cX4_node 42 = .ok (.aload_n 0, 1) := dk_42 (dk_at dksX4_node_1 18 rfl rfl)
theorem dX4_node_43 : decode cX4_node 43 = .ok (.getfield 39, 3) := dk_180 0 39 (dk_at dksX4_node_1 19 rfl rfl)
theorem dX4_node_46 : decode cX4_node 46 = .ok (.dup, 1) := dk_89 (dk_at dksX4_node_1 22 rfl rfl)
theorem dX4_node_47 : decode cX4_node 47 = .ok (.getfield 138, 3) := dk_180 0 138 (dk_at dksX4_node_2 0 rfl rfl)
theorem dX4_node_50 : decode cX4_node 50 = .ok (.iconst 1, 1) := dk_4 (dk_at dksX4_node_2 3 rfl rfl)
theorem dX4_node_51 : decode cX4_node 51 = .ok (.iadd, 1) := dk_96 (dk_at dksX4_node_2 4 rfl rfl)
theorem dX4_node_52 : decode cX4_node 52 = .ok (.putfield 138, 3) := dk_181 0 138 (dk_at dksX4_node_2 5 rfl rfl)
theorem dX4_node_55 : decode cX4_node 55 = .ok (.iload 4, 2) := dk_21 4 (dk_at dksX4_node_2 8 rfl rfl)
theorem dX4_node_57 : decode cX4_node 57 = .ok (.ireturn, 1) := dk_172 (dk_at dksX4_node_2 10 rfl rfl)
abbrev cX4_ofTwo : ByteArray := prog_45_method_27_code
def yX4_ofTwo : MethodName := ⟨RX4, "ofTwo", "(I)I"⟩
def dkwX4_ofTwo_2 : List UInt8 := [182, 0, 164, 42, 89, 180, 0, 135, 4, 100, 181, 0, 135, 42, 27, 28, 29, 182, 0, 178, 172]
abbrev dktX4_ofTwo_2 : List UInt8 := dkwX4_ofTwo_2 ++ []
def dkwX4_ofTwo_1 : List UInt8 := [172, 42, 182, 0, 172, 42, 182, 0, 175, 61, 42, 16, 54, 182, 0, 164, 42, 182, 0, 175, 62, 42, 16, 50]
abbrev dktX4_ofTwo_1 : List UInt8 := dkwX4_ofTwo_1 ++ dktX4_ofTwo_2
def dkwX4_ofTwo_0 : List UInt8 := [42, 89, 180, 0, 120, 4, 96, 181, 0, 120, 42, 16, 49, 182, 0, 129, 154, 0, 9, 42, 182, 0, 132, 3]
abbrev dktX4_ofTwo_0 : List UInt8 := dkwX4_ofTwo_0 ++ dktX4_ofTwo_1
theorem dksX4_ofTwo_0 : cX4_ofTwo.data.toList.drop 0 = dktX4_ofTwo_0 := by decide +kernel
theorem dksX4_ofTwo_1 : cX4_ofTwo.data.toList.drop 24 = dktX4_ofTwo_1 := dk_seg dksX4_ofTwo_0 24 rfl rfl
theorem dksX4_ofTwo_2 : cX4_ofTwo.data.toList.drop 48 = dktX4_ofTwo_2 := dk_seg dksX4_ofTwo_1 24 rfl rfl
theorem dX4_ofTwo_0 : decode cX4_ofTwo 0 = .ok (.aload_n 0, 1) := dk_42 (dk_at dksX4_ofTwo_0 0 rfl rfl)
theorem dX4_ofTwo_1 : decode cX4_ofTwo 1 = .ok (.dup, 1) := dk_89 (dk_at dksX4_ofTwo_0 1 rfl rfl)
theorem dX4_ofTwo_2 : decode cX4_ofTwo 2 = .ok (.getfield 120, 3) := dk_180 0 120 (dk_at dksX4_ofTwo_0 2 rfl rfl)
theorem dX4_ofTwo_5 : decode cX4_ofTwo 5 = .ok (.iconst 1, 1) := dk_4 (dk_at dksX4_ofTwo_0 5 rfl rfl)
theorem dX4_ofTwo_6 : decode cX4_ofTwo 6 = .ok (.iadd, 1) := dk_96 (dk_at dksX4_ofTwo_0 6 rfl rfl)
theorem dX4_ofTwo_7 : decode cX4_ofTwo 7 = .ok (.putfield 120, 3) := dk_181 0 120 (dk_at dksX4_ofTwo_0 7 rfl rfl)
theorem dX4_ofTwo_10 : decode cX4_ofTwo 10 = .ok (.aload_n 0, 1) := dk_42 (dk_at dksX4_ofTwo_0 10 rfl rfl)
theorem dX4_ofTwo_11 : decode cX4_ofTwo 11 = .ok (.bipush 49, 2) := dk_16 49 (dk_at dksX4_ofTwo_0 11 rfl rfl)
theorem dX4_ofTwo_13 : decode cX4_ofTwo 13 = .ok (.invokevirtual 129, 3) := dk_182 0 129 (dk_at dksX4_ofTwo_0 13 rfl rfl)
theorem dX4_ofTwo_16 : decode cX4_ofTwo 16 = .ok (.ifCond .ne 9, 3) := dk_154 0 9 (dk_at dksX4_ofTwo_0 16 rfl rfl)
theorem dX4_ofTwo_19 : decode cX4_ofTwo 19 = .ok (.aload_n 0, 1) := dk_42 (dk_at dksX4_ofTwo_0 19 rfl rfl)
theorem dX4_ofTwo_20 : decode cX4_ofTwo 20 = .ok (.invokevirtual 132, 3) := dk_182 0 132 (dk_at dksX4_ofTwo_0 20 rfl rfl)
theorem dX4_ofTwo_23 : decode cX4_ofTwo 23 = .ok (.iconst 0, 1) := dk_3 (dk_at dksX4_ofTwo_0 23 rfl rfl)
theorem dX4_ofTwo_24 : decode cX4_ofTwo 24 = .ok (.ireturn, 1) := dk_172 (dk_at dksX4_ofTwo_1 0 rfl rfl)
theorem dX4_ofTwo_25 : decode cX4_ofTwo 25 = .ok (.aload_n 0, 1) := dk_42 (dk_at dksX4_ofTwo_1 1 rfl rfl)
theorem dX4_ofTwo_26 : decode cX4_ofTwo 26 = .ok (.invokevirtual 172, 3) := dk_182 0 172 (dk_at dksX4_ofTwo_1 2 rfl rfl)
theorem dX4_ofTwo_29 : decode cX4_ofTwo 29 = .ok (.aload_n 0, 1) := dk_42 (dk_at dksX4_ofTwo_1 5 rfl rfl)
theorem dX4_ofTwo_30 : decode cX4_ofTwo 30 = .ok (.invokevirtual 175, 3) := dk_182 0 175 (dk_at dksX4_ofTwo_1 6 rfl rfl)
theorem dX4_ofTwo_33 : decode cX4_ofTwo 33 = .ok (.istore_n 2, 1) := dk_61 (dk_at dksX4_ofTwo_1 9 rfl rfl)
theorem dX4_ofTwo_34 : decode cX4_ofTwo 34 = .ok (.aload_n 0, 1) := dk_42 (dk_at dksX4_ofTwo_1 10 rfl rfl)
theorem dX4_ofTwo_35 : decode cX4_ofTwo 35 = .ok (.bipush 54, 2) := dk_16 54 (dk_at dksX4_ofTwo_1 11 rfl rfl)
theorem dX4_ofTwo_37 : decode cX4_ofTwo 37 = .ok (.invokevirtual 164, 3) := dk_182 0 164 (dk_at dksX4_ofTwo_1 13 rfl rfl)
theorem dX4_ofTwo_40 : decode cX4_ofTwo 40 = .ok (.aload_n 0, 1) := dk_42 (dk_at dksX4_ofTwo_1 16 rfl rfl)
theorem dX4_ofTwo_41 : decode cX4_ofTwo 41 = .ok (.invokevirtual 175, 3) := dk_182 0 175 (dk_at dksX4_ofTwo_1 17 rfl rfl)
theorem dX4_ofTwo_44 : decode cX4_ofTwo 44 = .ok (.istore_n 3, 1) := dk_62 (dk_at dksX4_ofTwo_1 20 rfl rfl)
theorem dX4_ofTwo_45 : decode cX4_ofTwo 45 = .ok (.aload_n 0, 1) := dk_42 (dk_at dksX4_ofTwo_1 21 rfl rfl)
theorem dX4_ofTwo_46 : decode cX4_ofTwo 46 = .ok (.bipush 50, 2) := dk_16 50 (dk_at dksX4_ofTwo_1 22 rfl rfl)
theorem dX4_ofTwo_48 : decode cX4_ofTwo 48 = .ok (.invokevirtual 164, 3) := dk_182 0 164 (dk_at dksX4_ofTwo_2 0 rfl rfl)
theorem dX4_ofTwo_51 : decode cX4_ofTwo 51 = .ok (.aload_n 0, 1) := dk_42 (dk_at dksX4_ofTwo_2 3 rfl rfl)
theorem dX4_ofTwo_52 : decode cX4_ofTwo 52 = .ok (.dup, 1) := dk_89 (dk_at dksX4_ofTwo_2 4 rfl rfl)
theorem dX4_ofTwo_53 : decode cX4_ofTwo 53 = .ok (.getfield 135, 3) := dk_180 0 135 (dk_at dksX4_ofTwo_2 5 rfl rfl)
theorem dX4_ofTwo_56 : decode cX4_ofTwo 56 = .ok (.iconst 1, 1) := dk_4 (dk_at dksX4_ofTwo_2 8 rfl rfl)
theorem dX4_ofTwo_57 : decode cX4_ofTwo 57 = .ok (.isub, 1) := dk_100 (dk_at dksX4_ofTwo_2 9 rfl rfl)
theorem dX4_ofTwo_58 : decode cX4_ofTwo 58 = .ok (.putfield 135, 3) := dk_181 0 135 (dk_at dksX4_ofTwo_2 10 rfl rfl)
theorem dX4_ofTwo_61 : decode cX4_ofTwo 61 = .ok (.aload_n 0, 1) := dk_42 (dk_at dksX4_ofTwo_2 13 rfl rfl)
theorem dX4_ofTwo_62 : decode cX4_ofTwo 62 = .ok (.iload_n 1, 1) := dk_27 (dk_at dksX4_ofTwo_2 14 rfl rfl)
theorem dX4_ofTwo_63 : decode cX4_ofTwo 63 = .ok (.iload_n 2, 1) := dk_28 (dk_at dksX4_ofTwo_2 15 rfl rfl)
theorem dX4_ofTwo_64 : decode cX4_ofTwo 64 = .ok (.iload_n 3, 1) := dk_29 (dk_at dksX4_ofTwo_2 16 rfl rfl)
theorem dX4_ofTwo_65 : decode cX4_ofTwo 65 = .ok (.invokevirtual 178, 3) := dk_182 0 178 (dk_at dksX4_ofTwo_2 17 rfl rfl)
theorem dX4_ofTwo_68 : decode cX4_ofTwo 68 = .ok (.ireturn, 1) := dk_172 (dk_at dksX4_ofTwo_2 20 rfl rfl)
abbrev cX4_deeper : ByteArray := prog_45_method_20_code
def yX4_deeper : MethodName := ⟨RX4, "deeper", "()V"⟩
def dkwX4_deeper_1 : List UInt8 := [181, 0, 120, 42, 89, 180, 0, 135, 4, 96, 181, 0, 135, 177]
abbrev dktX4_deeper_1 : List UInt8 := dkwX4_deeper_1 ++ []
def dkwX4_deeper_0 : List UInt8 := [42, 180, 0, 135, 16, 8, 160, 0, 10, 42, 182, 0, 132, 167, 0, 13, 42, 89, 180, 0, 120, 4, 96]
abbrev dktX4_deeper_0 : List UInt8 := dkwX4_deeper_0 ++ dktX4_deeper_1
theorem dksX4_deeper_0 : cX4_deeper.data.toList.drop 0 = dktX4_deeper_0 := by decide +kernel
theorem dksX4_deeper_1 : cX4_deeper.data.toList.drop 23 = dktX4_deeper_1 := dk_seg dksX4_deeper_0 23 rfl rfl
theorem dX4_deeper_0 : decode cX4_deeper 0 = .ok (.aload_n 0, 1) := dk_42 (dk_at dksX4_deeper_0 0 rfl rfl)
theorem dX4_deeper_1 : decode cX4_deeper 1 = .ok (.getfield 135, 3) := dk_180 0 135 (dk_at dksX4_deeper_0 1 rfl rfl)
theorem dX4_deeper_4 : decode cX4_deeper 4 = .ok (.bipush 8, 2) := dk_16 8 (dk_at dksX4_deeper_0 4 rfl rfl)
theorem dX4_deeper_6 : decode cX4_deeper 6 = .ok (.if_icmp .ne 10, 3) := dk_160 0 10 (dk_at dksX4_deeper_0 6 rfl rfl)
theorem dX4_deeper_9 : decode cX4_deeper 9 = .ok (.aload_n 0, 1) := dk_42 (dk_at dksX4_deeper_0 9 rfl rfl)
theorem dX4_deeper_10 : decode cX4_deeper 10 = .ok (.invokevirtual 132, 3) := dk_182 0 132 (dk_at dksX4_deeper_0 10 rfl rfl)
theorem dX4_deeper_13 : decode cX4_deeper 13 = .ok (.goto 13, 3) := dk_167 0 13 (dk_at dksX4_deeper_0 13 rfl rfl)
theorem dX4_deeper_16 : decode cX4_deeper 16 = .ok (.aload_n 0, 1) := dk_42 (dk_at dksX4_deeper_0 16 rfl rfl)
theorem dX4_deeper_17 : decode cX4_deeper 17 = .ok (.dup, 1) := dk_89 (dk_at dksX4_deeper_0 17 rfl rfl)
theorem dX4_deeper_18 : decode cX4_deeper 18 = .ok (.getfield 120, 3) := dk_180 0 120 (dk_at dksX4_deeper_0 18 rfl rfl)
theorem dX4_deeper_21 : decode cX4_deeper 21 = .ok (.iconst 1, 1) := dk_4 (dk_at dksX4_deeper_0 21 rfl rfl)
theorem dX4_deeper_22 : decode cX4_deeper 22 = .ok (.iadd, 1) := dk_96 (dk_at dksX4_deeper_0 22 rfl rfl)
theorem dX4_deeper_23 : decode cX4_deeper 23 = .ok (.putfield 120, 3) := dk_181 0 120 (dk_at dksX4_deeper_1 0 rfl rfl)
theorem dX4_deeper_26 : decode cX4_deeper 26 = .ok (.aload_n 0, 1) := dk_42 (dk_at dksX4_deeper_1 3 rfl rfl)
theorem dX4_deeper_27 : decode cX4_deeper 27 = .ok (.dup, 1) := dk_89 (dk_at dksX4_deeper_1 4 rfl rfl)
theorem dX4_deeper_28 : decode cX4_deeper 28 = .ok (.getfield 135, 3) := dk_180 0 135 (dk_at dksX4_deeper_1 5 rfl rfl)
theorem dX4_deeper_31 : decode cX4_deeper 31 = .ok (.iconst 1, 1) := dk_4 (dk_at dksX4_deeper_1 8 rfl rfl)
theorem dX4_deeper_32 : decode cX4_deeper 32 = .ok (.iadd, 1) := dk_96 (dk_at dksX4_deeper_1 9 rfl rfl)
theorem dX4_deeper_33 : decode cX4_deeper 33 = .ok (.putfield 135, 3) := dk_181 0 135 (dk_at dksX4_deeper_1 10 rfl rfl)
theorem dX4_deeper_36 : decode cX4_deeper 36 = .ok (.return_, 1) := dk_177 (dk_at dksX4_deeper_1 13 rfl rfl)
abbrev cX4_inBrackets : ByteArray := prog_45_method_26_code
def yX4_inBrackets : MethodName := ⟨RX4, "inBrackets", "()I"⟩
def dkwX4_inBrackets_1 : List UInt8 := [181, 0, 135, 27, 172]
abbrev dktX4_inBrackets_1 : List UInt8 := dkwX4_inBrackets_1 ++ []
def dkwX4_inBrackets_0 : List UInt8 := [42, 182, 0, 172, 42, 182, 0, 175, 60, 42, 16, 50, 182, 0, 164, 42, 89, 180, 0, 135, 4, 100]
abbrev dktX4_inBrackets_0 : List UInt8 := dkwX4_inBrackets_0 ++ dktX4_inBrackets_1
theorem dksX4_inBrackets_0 : cX4_inBrackets.data.toList.drop 0 = dktX4_inBrackets_0 := by decide +kernel
theorem dksX4_inBrackets_1 : cX4_inBrackets.data.toList.drop 22 = dktX4_inBrackets_1 := dk_seg dksX4_inBrackets_0 22 rfl rfl
theorem dX4_inBrackets_0 : decode cX4_inBrackets 0 = .ok (.aload_n 0, 1) := dk_42 (dk_at dksX4_inBrackets_0 0 rfl rfl)
theorem dX4_inBrackets_1 : decode cX4_inBrackets 1 = .ok (.invokevirtual 172, 3) := dk_182 0 172 (dk_at dksX4_inBrackets_0 1 rfl rfl)
theorem dX4_inBrackets_4 : decode cX4_inBrackets 4 = .ok (.aload_n 0, 1) := dk_42 (dk_at dksX4_inBrackets_0 4 rfl rfl)
theorem dX4_inBrackets_5 : decode cX4_inBrackets 5 = .ok (.invokevirtual 175, 3) := dk_182 0 175 (dk_at dksX4_inBrackets_0 5 rfl rfl)
theorem dX4_inBrackets_8 : decode cX4_inBrackets 8 = .ok (.istore_n 1, 1) := dk_60 (dk_at dksX4_inBrackets_0 8 rfl rfl)
theorem dX4_inBrackets_9 : decode cX4_inBrackets 9 = .ok (.aload_n 0, 1) := dk_42 (dk_at dksX4_inBrackets_0 9 rfl rfl)
theorem dX4_inBrackets_10 : decode cX4_inBrackets 10 = .ok (.bipush 50, 2) := dk_16 50 (dk_at dksX4_inBrackets_0 10 rfl rfl)
theorem dX4_inBrackets_12 : decode cX4_inBrackets 12 = .ok (.invokevirtual 164, 3) := dk_182 0 164 (dk_at dksX4_inBrackets_0 12 rfl rfl)
theorem dX4_inBrackets_15 : decode cX4_inBrackets 15 = .ok (.aload_n 0, 1) := dk_42 (dk_at dksX4_inBrackets_0 15 rfl rfl)
theorem dX4_inBrackets_16 : decode cX4_inBrackets 16 = .ok (.dup, 1) := dk_89 (dk_at dksX4_inBrackets_0 16 rfl rfl)
theorem dX4_inBrackets_17 : decode cX4_inBrackets 17 = .ok (.getfield 135, 3) := dk_180 0 135 (dk_at dksX4_inBrackets_0 17 rfl rfl)
theorem dX4_inBrackets_20 : decode cX4_inBrackets 20 = .ok (.iconst 1, 1) := dk_4 (dk_at dksX4_inBrackets_0 20 rfl rfl)
theorem dX4_inBrackets_21 : decode cX4_inBrackets 21 = .ok (.isub, 1) := dk_100 (dk_at dksX4_inBrackets_0 21 rfl rfl)
theorem dX4_inBrackets_22 : decode cX4_inBrackets 22 = .ok (.putfield 135, 3) := dk_181 0 135 (dk_at dksX4_inBrackets_1 0 rfl rfl)
theorem dX4_inBrackets_25 : decode cX4_inBrackets 25 = .ok (.iload_n 1, 1) := dk_27 (dk_at dksX4_inBrackets_1 3 rfl rfl)
theorem dX4_inBrackets_26 : decode cX4_inBrackets 26 = .ok (.ireturn, 1) := dk_172 (dk_at dksX4_inBrackets_1 4 rfl rfl)
abbrev cX4_test : ByteArray := prog_45_method_34_code
def yX4_test : MethodName := ⟨RX4, "test", "()I"⟩
def dkwX4_test_1 : List UInt8 := [182, 0, 178, 60, 167, 255, 235, 27, 172]
abbrev dktX4_test_1 : List UInt8 := dkwX4_test_1 ++ []
def dkwX4_test_0 : List UInt8 := [42, 182, 0, 208, 60, 42, 16, 21, 182, 0, 182, 153, 0, 18, 42, 16, 21, 27, 42, 182, 0, 208]
abbrev dktX4_test_0 : List UInt8 := dkwX4_test_0 ++ dktX4_test_1
theorem dksX4_test_0 : cX4_test.data.toList.drop 0 = dktX4_test_0 := by decide +kernel
theorem dksX4_test_1 : cX4_test.data.toList.drop 22 = dktX4_test_1 := dk_seg dksX4_test_0 22 rfl rfl
theorem dX4_test_0 : decode cX4_test 0 = .ok (.aload_n 0, 1) := dk_42 (dk_at dksX4_test_0 0 rfl rfl)
theorem dX4_test_1 : decode cX4_test 1 = .ok (.invokevirtual 208, 3) := dk_182 0 208 (dk_at dksX4_test_0 1 rfl rfl)
theorem dX4_test_4 : decode cX4_test 4 = .ok (.istore_n 1, 1) := dk_60 (dk_at dksX4_test_0 4 rfl rfl)
theorem dX4_test_5 : decode cX4_test 5 = .ok (.aload_n 0, 1) := dk_42 (dk_at dksX4_test_0 5 rfl rfl)
theorem dX4_test_6 : decode cX4_test 6 = .ok (.bipush 21, 2) := dk_16 21 (dk_at dksX4_test_0 6 rfl rfl)
theorem dX4_test_8 : decode cX4_test 8 = .ok (.invokevirtual 182, 3) := dk_182 0 182 (dk_at dksX4_test_0 8 rfl rfl)
theorem dX4_test_11 : decode cX4_test 11 = .ok (.ifCond .eq 18, 3) := dk_153 0 18 (dk_at dksX4_test_0 11 rfl rfl)
theorem dX4_test_14 : decode cX4_test 14 = .ok (.aload_n 0, 1) := dk_42 (dk_at dksX4_test_0 14 rfl rfl)
theorem dX4_test_15 : decode cX4_test 15 = .ok (.bipush 21, 2) := dk_16 21 (dk_at dksX4_test_0 15 rfl rfl)
theorem dX4_test_17 : decode cX4_test 17 = .ok (.iload_n 1, 1) := dk_27 (dk_at dksX4_test_0 17 rfl rfl)
theorem dX4_test_18 : decode cX4_test 18 = .ok (.aload_n 0, 1) := dk_42 (dk_at dksX4_test_0 18 rfl rfl)
theorem dX4_test_19 : decode cX4_test 19 = .ok (.invokevirtual 208, 3) := dk_182 0 208 (dk_at dksX4_test_0 19 rfl rfl)
theorem dX4_test_22 : decode cX4_test 22 = .ok (.invokevirtual 178, 3) := dk_182 0 178 (dk_at dksX4_test_1 0 rfl rfl)
theorem dX4_test_25 : decode cX4_test 25 = .ok (.istore_n 1, 1) := dk_60 (dk_at dksX4_test_1 3 rfl rfl)
theorem dX4_test_26 : decode cX4_test 26 = .ok (.goto (-21), 3) := dk_167 255 235 (dk_at dksX4_test_1 4 rfl rfl)
theorem dX4_test_29 : decode cX4_test 29 = .ok (.iload_n 1, 1) := dk_27 (dk_at dksX4_test_1 7 rfl rfl)
theorem dX4_test_30 : decode cX4_test 30 = .ok (.ireturn, 1) := dk_172 (dk_at dksX4_test_1 8 rfl rfl)
abbrev cX4_both : ByteArray := prog_45_method_33_code
def yX4_both : MethodName := ⟨RX4, "both", "()I"⟩
def dkwX4_both_1 : List UInt8 := [182, 0, 178, 60, 167, 255, 235, 27, 172]
abbrev dktX4_both_1 : List UInt8 := dkwX4_both_1 ++ []
def dkwX4_both_0 : List UInt8 := [42, 182, 0, 199, 60, 42, 16, 20, 182, 0, 182, 153, 0, 18, 42, 16, 20, 27, 42, 182, 0, 199]
abbrev dktX4_both_0 : List UInt8 := dkwX4_both_0 ++ dktX4_both_1
theorem dksX4_both_0 : cX4_both.data.toList.drop 0 = dktX4_both_0 := by decide +kernel
theorem dksX4_both_1 : cX4_both.data.toList.drop 22 = dktX4_both_1 := dk_seg dksX4_both_0 22 rfl rfl
theorem dX4_both_0 : decode cX4_both 0 = .ok (.aload_n 0, 1) := dk_42 (dk_at dksX4_both_0 0 rfl rfl)
theorem dX4_both_1 : decode cX4_both 1 = .ok (.invokevirtual 199, 3) := dk_182 0 199 (dk_at dksX4_both_0 1 rfl rfl)
theorem dX4_both_4 : decode cX4_both 4 = .ok (.istore_n 1, 1) := dk_60 (dk_at dksX4_both_0 4 rfl rfl)
theorem dX4_both_5 : decode cX4_both 5 = .ok (.aload_n 0, 1) := dk_42 (dk_at dksX4_both_0 5 rfl rfl)
theorem dX4_both_6 : decode cX4_both 6 = .ok (.bipush 20, 2) := dk_16 20 (dk_at dksX4_both_0 6 rfl rfl)
theorem dX4_both_8 : decode cX4_both 8 = .ok (.invokevirtual 182, 3) := dk_182 0 182 (dk_at dksX4_both_0 8 rfl rfl)
theorem dX4_both_11 : decode cX4_both 11 = .ok (.ifCond .eq 18, 3) := dk_153 0 18 (dk_at dksX4_both_0 11 rfl rfl)
theorem dX4_both_14 : decode cX4_both 14 = .ok (.aload_n 0, 1) := dk_42 (dk_at dksX4_both_0 14 rfl rfl)
theorem dX4_both_15 : decode cX4_both 15 = .ok (.bipush 20, 2) := dk_16 20 (dk_at dksX4_both_0 15 rfl rfl)
theorem dX4_both_17 : decode cX4_both 17 = .ok (.iload_n 1, 1) := dk_27 (dk_at dksX4_both_0 17 rfl rfl)
theorem dX4_both_18 : decode cX4_both 18 = .ok (.aload_n 0, 1) := dk_42 (dk_at dksX4_both_0 18 rfl rfl)
theorem dX4_both_19 : decode cX4_both 19 = .ok (.invokevirtual 199, 3) := dk_182 0 199 (dk_at dksX4_both_0 19 rfl rfl)
theorem dX4_both_22 : decode cX4_both 22 = .ok (.invokevirtual 178, 3) := dk_182 0 178 (dk_at dksX4_both_1 0 rfl rfl)
theorem dX4_both_25 : decode cX4_both 25 = .ok (.istore_n 1, 1) := dk_60 (dk_at dksX4_both_1 3 rfl rfl)
theorem dX4_both_26 : decode cX4_both 26 = .ok (.goto (-21), 3) := dk_167 255 235 (dk_at dksX4_both_1 4 rfl rfl)
theorem dX4_both_29 : decode cX4_both 29 = .ok (.iload_n 1, 1) := dk_27 (dk_at dksX4_both_1 7 rfl rfl)
theorem dX4_both_30 : decode cX4_both 30 = .ok (.ireturn, 1) := dk_172 (dk_at dksX4_both_1 8 rfl rfl)
abbrev cX4_single : ByteArray := prog_45_method_32_code
def yX4_single : MethodName := ⟨RX4, "single", "()I"⟩
def dkwX4_single_5 : List UInt8 := [182, 0, 205, 172]
abbrev dktX4_single_5 : List UInt8 := dkwX4_single_5 ++ []
def dkwX4_single_4 : List UInt8 := [16, 18, 182, 0, 182, 153, 0, 17, 42, 16, 18, 42, 182, 0, 185, 3, 182, 0, 178, 167, 0, 7, 42]
abbrev dktX4_single_4 : List UInt8 := dkwX4_single_4 ++ dktX4_single_5
def dkwX4_single_3 : List UInt8 := [27, 172, 42, 16, 17, 182, 0, 182, 153, 0, 15, 42, 16, 17, 42, 182, 0, 185, 3, 182, 0, 178, 172, 42]
abbrev dktX4_single_3 : List UInt8 := dkwX4_single_3 ++ dktX4_single_4
def dkwX4_single_2 : List UInt8 := [182, 0, 172, 42, 182, 0, 202, 60, 42, 16, 52, 182, 0, 164, 42, 89, 180, 0, 135, 4, 100, 181, 0, 135]
abbrev dktX4_single_2 : List UInt8 := dkwX4_single_2 ++ dktX4_single_3
def dkwX4_single_1 : List UInt8 := [100, 181, 0, 135, 42, 16, 19, 27, 3, 182, 0, 178, 172, 42, 16, 51, 182, 0, 129, 153, 0, 30, 42]
abbrev dktX4_single_1 : List UInt8 := dkwX4_single_1 ++ dktX4_single_2
def dkwX4_single_0 : List UInt8 := [42, 16, 19, 182, 0, 129, 153, 0, 31, 42, 182, 0, 172, 42, 182, 0, 199, 60, 42, 89, 180, 0, 135, 4]
abbrev dktX4_single_0 : List UInt8 := dkwX4_single_0 ++ dktX4_single_1
theorem dksX4_single_0 : cX4_single.data.toList.drop 0 = dktX4_single_0 := by decide +kernel
theorem dksX4_single_1 : cX4_single.data.toList.drop 24 = dktX4_single_1 := dk_seg dksX4_single_0 24 rfl rfl
theorem dksX4_single_2 : cX4_single.data.toList.drop 47 = dktX4_single_2 := dk_seg dksX4_single_1 23 rfl rfl
theorem dksX4_single_3 : cX4_single.data.toList.drop 71 = dktX4_single_3 := dk_seg dksX4_single_2 24 rfl rfl
theorem dksX4_single_4 : cX4_single.data.toList.drop 95 = dktX4_single_4 := dk_seg dksX4_single_3 24 rfl rfl
theorem dksX4_single_5 : cX4_single.data.toList.drop 118 = dktX4_single_5 := dk_seg dksX4_single_4 23 rfl rfl
theorem dX4_single_0 : decode cX4_single 0 = .ok (.aload_n 0, 1) := dk_42 (dk_at dksX4_single_0 0 rfl rfl)
theorem dX4_single_1 : decode cX4_single 1 = .ok (.bipush 19, 2) := dk_16 19 (dk_at dksX4_single_0 1 rfl rfl)
theorem dX4_single_3 : decode cX4_single 3 = .ok (.invokevirtual 129, 3) := dk_182 0 129 (dk_at dksX4_single_0 3 rfl rfl)
theorem dX4_single_6 : decode cX4_single 6 = .ok (.ifCond .eq 31, 3) := dk_153 0 31 (dk_at dksX4_single_0 6 rfl rfl)
theorem dX4_single_9 : decode cX4_single 9 = .ok (.aload_n 0, 1) := dk_42 (dk_at dksX4_single_0 9 rfl rfl)
theorem dX4_single_10 : decode cX4_single 10 = .ok (.invokevirtual 172, 3) := dk_182 0 172 (dk_at dksX4_single_0 10 rfl rfl)
theorem dX4_single_13 : decode cX4_single 13 = .ok (.aload_n 0, 1) := dk_42 (dk_at dksX4_single_0 13 rfl rfl)
theorem dX4_single_14 : decode cX4_single 14 = .ok (.invokevirtual 199, 3) := dk_182 0 199 (dk_at dksX4_single_0 14 rfl rfl)
theorem dX4_single_17 : decode cX4_single 17 = .ok (.istore_n 1, 1) := dk_60 (dk_at dksX4_single_0 17 rfl rfl)
theorem dX4_single_18 : decode cX4_single 18 = .ok (.aload_n 0, 1) := dk_42 (dk_at dksX4_single_0 18 rfl rfl)
theorem dX4_single_19 : decode cX4_single 19 = .ok (.dup, 1) := dk_89 (dk_at dksX4_single_0 19 rfl rfl)
theorem dX4_single_20 : decode cX4_single 20 = .ok (.getfield 135, 3) := dk_180 0 135 (dk_at dksX4_single_0 20 rfl rfl)
theorem dX4_single_23 : decode cX4_single 23 = .ok (.iconst 1, 1) := dk_4 (dk_at dksX4_single_0 23 rfl rfl)
theorem dX4_single_24 : decode cX4_single 24 = .ok (.isub, 1) := dk_100 (dk_at dksX4_single_1 0 rfl rfl)
theorem dX4_single_25 : decode cX4_single 25 = .ok (.putfield 135, 3) := dk_181 0 135 (dk_at dksX4_single_1 1 rfl rfl)
theorem dX4_single_28 : decode cX4_single 28 = .ok (.aload_n 0, 1) := dk_42 (dk_at dksX4_single_1 4 rfl rfl)
theorem dX4_single_29 : decode cX4_single 29 = .ok (.bipush 19, 2) := dk_16 19 (dk_at dksX4_single_1 5 rfl rfl)
theorem dX4_single_31 : decode cX4_single 31 = .ok (.iload_n 1, 1) := dk_27 (dk_at dksX4_single_1 7 rfl rfl)
theorem dX4_single_32 : decode cX4_single 32 = .ok (.iconst 0, 1) := dk_3 (dk_at dksX4_single_1 8 rfl rfl)
theorem dX4_single_33 : decode cX4_single 33 = .ok (.invokevirtual 178, 3) := dk_182 0 178 (dk_at dksX4_single_1 9 rfl rfl)
theorem dX4_single_36 : decode cX4_single 36 = .ok (.ireturn, 1) := dk_172 (dk_at dksX4_single_1 12 rfl rfl)
theorem dX4_single_37 : decode cX4_single 37 = .ok (.aload_n 0, 1) := dk_42 (dk_at dksX4_single_1 13 rfl rfl)
theorem dX4_single_38 : decode cX4_single 38 = .ok (.bipush 51, 2) := dk_16 51 (dk_at dksX4_single_1 14 rfl rfl)
theorem dX4_single_40 : decode cX4_single 40 = .ok (.invokevirtual 129, 3) := dk_182 0 129 (dk_at dksX4_single_1 16 rfl rfl)
theorem dX4_single_43 : decode cX4_single 43 = .ok (.ifCond .eq 30, 3) := dk_153 0 30 (dk_at dksX4_single_1 19 rfl rfl)
theorem dX4_single_46 : decode cX4_single 46 = .ok (.aload_n 0, 1) := dk_42 (dk_at dksX4_single_1 22 rfl rfl)
theorem dX4_single_47 : decode cX4_single 47 = .ok (.invokevirtual 172, 3) := dk_182 0 172 (dk_at dksX4_single_2 0 rfl rfl)
theorem dX4_single_50 : decode cX4_single 50 = .ok (.aload_n 0, 1) := dk_42 (dk_at dksX4_single_2 3 rfl rfl)
theorem dX4_single_51 : decode cX4_single 51 = .ok (.invokevirtual 202, 3) := dk_182 0 202 (dk_at dksX4_single_2 4 rfl rfl)
theorem dX4_single_54 : decode cX4_single 54 = .ok (.istore_n 1, 1) := dk_60 (dk_at dksX4_single_2 7 rfl rfl)
theorem dX4_single_55 : decode cX4_single 55 = .ok (.aload_n 0, 1) := dk_42 (dk_at dksX4_single_2 8 rfl rfl)
theorem dX4_single_56 : decode cX4_single 56 = .ok (.bipush 52, 2) := dk_16 52 (dk_at dksX4_single_2 9 rfl rfl)
theorem dX4_single_58 : decode cX4_single 58 = .ok (.invokevirtual 164, 3) := dk_182 0 164 (dk_at dksX4_single_2 11 rfl rfl)
theorem dX4_single_61 : decode cX4_single 61 = .ok (.aload_n 0, 1) := dk_42 (dk_at dksX4_single_2 14 rfl rfl)
theorem dX4_single_62 : decode cX4_single 62 = .ok (.dup, 1) := dk_89 (dk_at dksX4_single_2 15 rfl rfl)
theorem dX4_single_63 : decode cX4_single 63 = .ok (.getfield 135, 3) := dk_180 0 135 (dk_at dksX4_single_2 16 rfl rfl)
theorem dX4_single_66 : decode cX4_single 66 = .ok (.iconst 1, 1) := dk_4 (dk_at dksX4_single_2 19 rfl rfl)
theorem dX4_single_67 : decode cX4_single 67 = .ok (.isub, 1) := dk_100 (dk_at dksX4_single_2 20 rfl rfl)
theorem dX4_single_68 : decode cX4_single 68 = .ok (.putfield 135, 3) := dk_181 0 135 (dk_at dksX4_single_2 21 rfl rfl)
theorem dX4_single_71 : decode cX4_single 71 = .ok (.iload_n 1, 1) := dk_27 (dk_at dksX4_single_3 0 rfl rfl)
theorem dX4_single_72 : decode cX4_single 72 = .ok (.ireturn, 1) := dk_172 (dk_at dksX4_single_3 1 rfl rfl)
theorem dX4_single_73 : decode cX4_single 73 = .ok (.aload_n 0, 1) := dk_42 (dk_at dksX4_single_3 2 rfl rfl)
theorem dX4_single_74 : decode cX4_single 74 = .ok (.bipush 17, 2) := dk_16 17 (dk_at dksX4_single_3 3 rfl rfl)
theorem dX4_single_76 : decode cX4_single 76 = .ok (.invokevirtual 182, 3) := dk_182 0 182 (dk_at dksX4_single_3 5 rfl rfl)
theorem dX4_single_79 : decode cX4_single 79 = .ok (.ifCond .eq 15, 3) := dk_153 0 15 (dk_at dksX4_single_3 8 rfl rfl)
theorem dX4_single_82 : decode cX4_single 82 = .ok (.aload_n 0, 1) := dk_42 (dk_at dksX4_single_3 11 rfl rfl)
theorem dX4_single_83 : decode cX4_single 83 = .ok (.bipush 17, 2) := dk_16 17 (dk_at dksX4_single_3 12 rfl rfl)
theorem dX4_single_85 : decode cX4_single 85 = .ok (.aload_n 0, 1) := dk_42 (dk_at dksX4_single_3 14 rfl rfl)
theorem dX4_single_86 : decode cX4_single 86 = .ok (.invokevirtual 185, 3) := dk_182 0 185 (dk_at dksX4_single_3 15 rfl rfl)
theorem dX4_single_89 : decode cX4_single 89 = .ok (.iconst 0, 1) := dk_3 (dk_at dksX4_single_3 18 rfl rfl)
theorem dX4_single_90 : decode cX4_single 90 = .ok (.invokevirtual 178, 3) := dk_182 0 178 (dk_at dksX4_single_3 19 rfl rfl)
theorem dX4_single_93 : decode cX4_single 93 = .ok (.ireturn, 1) := dk_172 (dk_at dksX4_single_3 22 rfl rfl)
theorem dX4_single_94 : decode cX4_single 94 = .ok (.aload_n 0, 1) := dk_42 (dk_at dksX4_single_3 23 rfl rfl)
theorem dX4_single_95 : decode cX4_single 95 = .ok (.bipush 18, 2) := dk_16 18 (dk_at dksX4_single_4 0 rfl rfl)
theorem dX4_single_97 : decode cX4_single 97 = .ok (.invokevirtual 182, 3) := dk_182 0 182 (dk_at dksX4_single_4 2 rfl rfl)
theorem dX4_single_100 : decode cX4_single 100 = .ok (.ifCond .eq 17, 3) := dk_153 0 17 (dk_at dksX4_single_4 5 rfl rfl)
theorem dX4_single_103 : decode cX4_single 103 = .ok (.aload_n 0, 1) := dk_42 (dk_at dksX4_single_4 8 rfl rfl)
theorem dX4_single_104 : decode cX4_single 104 = .ok (.bipush 18, 2) := dk_16 18 (dk_at dksX4_single_4 9 rfl rfl)
theorem dX4_single_106 : decode cX4_single 106 = .ok (.aload_n 0, 1) := dk_42 (dk_at dksX4_single_4 11 rfl rfl)
theorem dX4_single_107 : decode cX4_single 107 = .ok (.invokevirtual 185, 3) := dk_182 0 185 (dk_at dksX4_single_4 12 rfl rfl)
theorem dX4_single_110 : decode cX4_single 110 = .ok (.iconst 0, 1) := dk_3 (dk_at dksX4_single_4 15 rfl rfl)
theorem dX4_single_111 : decode cX4_single 111 = .ok (.invokevirtual 178, 3) := dk_182 0 178 (dk_at dksX4_single_4 16 rfl rfl)
theorem dX4_single_114 : decode cX4_single 114 = .ok (.goto 7, 3) := dk_167 0 7 (dk_at dksX4_single_4 19 rfl rfl)
theorem dX4_single_117 : decode cX4_single 117 = .ok (.aload_n 0, 1) := dk_42 (dk_at dksX4_single_4 22 rfl rfl)
theorem dX4_single_118 : decode cX4_single 118 = .ok (.invokevirtual 205, 3) := dk_182 0 205 (dk_at dksX4_single_5 0 rfl rfl)
theorem dX4_single_121 : decode cX4_single 121 = .ok (.ireturn, 1) := dk_172 (dk_at dksX4_single_5 3 rfl rfl)
abbrev cX4_comparison : ByteArray := prog_45_method_31_code
def yX4_comparison : MethodName := ⟨RX4, "comparison", "()I"⟩
def dkwX4_comparison_2 : List UInt8 := [181, 0, 120, 42, 28, 27, 42, 182, 0, 175, 182, 0, 178, 172]
abbrev dktX4_comparison_2 : List UInt8 := dkwX4_comparison_2 ++ []
def dkwX4_comparison_1 : List UInt8 := [16, 44, 16, 48, 184, 0, 68, 154, 0, 9, 42, 182, 0, 132, 3, 172, 42, 89, 180, 0, 120, 4, 96]
abbrev dktX4_comparison_1 : List UInt8 := dkwX4_comparison_1 ++ dktX4_comparison_2
def dkwX4_comparison_0 : List UInt8 := [42, 182, 0, 175, 60, 42, 180, 0, 17, 42, 180, 0, 120, 46, 61, 42, 180, 0, 116, 154, 0, 14, 28]
abbrev dktX4_comparison_0 : List UInt8 := dkwX4_comparison_0 ++ dktX4_comparison_1
theorem dksX4_comparison_0 : cX4_comparison.data.toList.drop 0 = dktX4_comparison_0 := by decide +kernel
theorem dksX4_comparison_1 : cX4_comparison.data.toList.drop 23 = dktX4_comparison_1 := dk_seg dksX4_comparison_0 23 rfl rfl
theorem dksX4_comparison_2 : cX4_comparison.data.toList.drop 46 = dktX4_comparison_2 := dk_seg dksX4_comparison_1 23 rfl rfl
theorem dX4_comparison_0 : decode cX4_comparison 0 = .ok (.aload_n 0, 1) := dk_42 (dk_at dksX4_comparison_0 0 rfl rfl)
theorem dX4_comparison_1 : decode cX4_comparison 1 = .ok (.invokevirtual 175, 3) := dk_182 0 175 (dk_at dksX4_comparison_0 1 rfl rfl)
theorem dX4_comparison_4 : decode cX4_comparison 4 = .ok (.istore_n 1, 1) := dk_60 (dk_at dksX4_comparison_0 4 rfl rfl)
theorem dX4_comparison_5 : decode cX4_comparison 5 = .ok (.aload_n 0, 1) := dk_42 (dk_at dksX4_comparison_0 5 rfl rfl)
theorem dX4_comparison_6 : decode cX4_comparison 6 = .ok (.getfield 17, 3) := dk_180 0 17 (dk_at dksX4_comparison_0 6 rfl rfl)
theorem dX4_comparison_9 : decode cX4_comparison 9 = .ok (.aload_n 0, 1) := dk_42 (dk_at dksX4_comparison_0 9 rfl rfl)
theorem dX4_comparison_10 : decode cX4_comparison 10 = .ok (.getfield 120, 3) := dk_180 0 120 (dk_at dksX4_comparison_0 10 rfl rfl)
theorem dX4_comparison_13 : decode cX4_comparison 13 = .ok (.iaload, 1) := dk_46 (dk_at dksX4_comparison_0 13 rfl rfl)
theorem dX4_comparison_14 : decode cX4_comparison 14 = .ok (.istore_n 2, 1) := dk_61 (dk_at dksX4_comparison_0 14 rfl rfl)
theorem dX4_comparison_15 : decode cX4_comparison 15 = .ok (.aload_n 0, 1) := dk_42 (dk_at dksX4_comparison_0 15 rfl rfl)
theorem dX4_comparison_16 : decode cX4_comparison 16 = .ok (.getfield 116, 3) := dk_180 0 116 (dk_at dksX4_comparison_0 16 rfl rfl)
theorem dX4_comparison_19 : decode cX4_comparison 19 = .ok (.ifCond .ne 14, 3) := dk_154 0 14 (dk_at dksX4_comparison_0 19 rfl rfl)
theorem dX4_comparison_22 : decode cX4_comparison 22 = .ok (.iload_n 2, 1) := dk_28 (dk_at dksX4_comparison_0 22 rfl rfl)
theorem dX4_comparison_23 : decode cX4_comparison 23 = .ok (.bipush 44, 2) := dk_16 44 (dk_at dksX4_comparison_1 0 rfl rfl)
theorem dX4_comparison_25 : decode cX4_comparison 25 = .ok (.bipush 48, 2) := dk_16 48 (dk_at dksX4_comparison_1 2 rfl rfl)
theorem dX4_comparison_27 : decode cX4_comparison 27 = .ok (.invokestatic 68, 3) := dk_184 0 68 (dk_at dksX4_comparison_1 4 rfl rfl)
theorem dX4_comparison_30 : decode cX4_comparison 30 = .ok (.ifCond .ne 9, 3) := dk_154 0 9 (dk_at dksX4_comparison_1 7 rfl rfl)
theorem dX4_comparison_33 : decode cX4_comparison 33 = .ok (.aload_n 0, 1) := dk_42 (dk_at dksX4_comparison_1 10 rfl rfl)
theorem dX4_comparison_34 : decode cX4_comparison 34 = .ok (.invokevirtual 132, 3) := dk_182 0 132 (dk_at dksX4_comparison_1 11 rfl rfl)
theorem dX4_comparison_37 : decode cX4_comparison 37 = .ok (.iconst 0, 1) := dk_3 (dk_at dksX4_comparison_1 14 rfl rfl)
theorem dX4_comparison_38 : decode cX4_comparison 38 = .ok (.ireturn, 1) := dk_172 (dk_at dksX4_comparison_1 15 rfl rfl)
theorem dX4_comparison_39 : decode cX4_comparison 39 = .ok (.aload_n 0, 1) := dk_42 (dk_at dksX4_comparison_1 16 rfl rfl)
theorem dX4_comparison_40 : decode cX4_comparison 40 = .ok (.dup, 1) := dk_89 (dk_at dksX4_comparison_1 17 rfl rfl)
theorem dX4_comparison_41 : decode cX4_comparison 41 = .ok (.getfield 120, 3) := dk_180 0 120 (dk_at dksX4_comparison_1 18 rfl rfl)
theorem dX4_comparison_44 : decode cX4_comparison 44 = .ok (.iconst 1, 1) := dk_4 (dk_at dksX4_comparison_1 21 rfl rfl)
theorem dX4_comparison_45 : decode cX4_comparison 45 = .ok (.iadd, 1) := dk_96 (dk_at dksX4_comparison_1 22 rfl rfl)
theorem dX4_comparison_46 : decode cX4_comparison 46 = .ok (.putfield 120, 3) := dk_181 0 120 (dk_at dksX4_comparison_2 0 rfl rfl)
theorem dX4_comparison_49 : decode cX4_comparison 49 = .ok (.aload_n 0, 1) := dk_42 (dk_at dksX4_comparison_2 3 rfl rfl)
theorem dX4_comparison_50 : decode cX4_comparison 50 = .ok (.iload_n 2, 1) := dk_28 (dk_at dksX4_comparison_2 4 rfl rfl)
theorem dX4_comparison_51 : decode cX4_comparison 51 = .ok (.iload_n 1, 1) := dk_27 (dk_at dksX4_comparison_2 5 rfl rfl)
theorem dX4_comparison_52 : decode cX4_comparison 52 = .ok (.aload_n 0, 1) := dk_42 (dk_at dksX4_comparison_2 6 rfl rfl)
theorem dX4_comparison_53 : decode cX4_comparison 53 = .ok (.invokevirtual 175, 3) := dk_182 0 175 (dk_at dksX4_comparison_2 7 rfl rfl)
theorem dX4_comparison_56 : decode cX4_comparison 56 = .ok (.invokevirtual 178, 3) := dk_182 0 178 (dk_at dksX4_comparison_2 10 rfl rfl)
theorem dX4_comparison_59 : decode cX4_comparison 59 = .ok (.ireturn, 1) := dk_172 (dk_at dksX4_comparison_2 13 rfl rfl)
abbrev cX4_errorAt : ByteArray := prog_45_method_43_code
def yX4_errorAt : MethodName := ⟨RX4, "errorAt", "()I"⟩
def dkwX4_errorAt_0 : List UInt8 := [42, 42, 180, 0, 13, 182, 1, 12, 172]
abbrev dktX4_errorAt_0 : List UInt8 := dkwX4_errorAt_0 ++ []
theorem dksX4_errorAt_0 : cX4_errorAt.data.toList.drop 0 = dktX4_errorAt_0 := by decide +kernel
theorem dX4_errorAt_0 : decode cX4_errorAt 0 = .ok (.aload_n 0, 1) := dk_42 (dk_at dksX4_errorAt_0 0 rfl rfl)
theorem dX4_errorAt_1 : decode cX4_errorAt 1 = .ok (.aload_n 0, 1) := dk_42 (dk_at dksX4_errorAt_0 1 rfl rfl)
theorem dX4_errorAt_2 : decode cX4_errorAt 2 = .ok (.getfield 13, 3) := dk_180 0 13 (dk_at dksX4_errorAt_0 2 rfl rfl)
theorem dX4_errorAt_5 : decode cX4_errorAt 5 = .ok (.invokevirtual 268, 3) := dk_182 1 12 (dk_at dksX4_errorAt_0 5 rfl rfl)
theorem dX4_errorAt_8 : decode cX4_errorAt 8 = .ok (.ireturn, 1) := dk_172 (dk_at dksX4_errorAt_0 8 rfl rfl)
abbrev cX4_ok : ByteArray := prog_45_method_5_code
def yX4_ok : MethodName := ⟨RX4, "ok", "(I)I"⟩
def dkwX4_ok_0 : List UInt8 := [42, 3, 181, 0, 65, 27, 172]
abbrev dktX4_ok_0 : List UInt8 := dkwX4_ok_0 ++ []
theorem dksX4_ok_0 : cX4_ok.data.toList.drop 0 = dktX4_ok_0 := by decide +kernel
theorem dX4_ok_0 : decode cX4_ok 0 = .ok (.aload_n 0, 1) := dk_42 (dk_at dksX4_ok_0 0 rfl rfl)
theorem dX4_ok_1 : decode cX4_ok 1 = .ok (.iconst 0, 1) := dk_3 (dk_at dksX4_ok_0 1 rfl rfl)
theorem dX4_ok_2 : decode cX4_ok 2 = .ok (.putfield 65, 3) := dk_181 0 65 (dk_at dksX4_ok_0 2 rfl rfl)
theorem dX4_ok_5 : decode cX4_ok 5 = .ok (.iload_n 1, 1) := dk_27 (dk_at dksX4_ok_0 5 rfl rfl)
theorem dX4_ok_6 : decode cX4_ok 6 = .ok (.ireturn, 1) := dk_172 (dk_at dksX4_ok_0 6 rfl rfl)
abbrev cX4_columns : ByteArray := prog_45_method_68_code
def yX4_columns : MethodName := ⟨RX4, "columns", "()I"⟩
def dkwX4_columns_0 : List UInt8 := [42, 42, 180, 0, 35, 180, 0, 245, 182, 1, 12, 172]
abbrev dktX4_columns_0 : List UInt8 := dkwX4_columns_0 ++ []
theorem dksX4_columns_0 : cX4_columns.data.toList.drop 0 = dktX4_columns_0 := by decide +kernel
theorem dX4_columns_0 : decode cX4_columns 0 = .ok (.aload_n 0, 1) := dk_42 (dk_at dksX4_columns_0 0 rfl rfl)
theorem dX4_columns_1 : decode cX4_columns 1 = .ok (.aload_n 0, 1) := dk_42 (dk_at dksX4_columns_0 1 rfl rfl)
theorem dX4_columns_2 : decode cX4_columns 2 = .ok (.getfield 35, 3) := dk_180 0 35 (dk_at dksX4_columns_0 2 rfl rfl)
theorem dX4_columns_5 : decode cX4_columns 5 = .ok (.getfield 245, 3) := dk_180 0 245 (dk_at dksX4_columns_0 5 rfl rfl)
theorem dX4_columns_8 : decode cX4_columns 8 = .ok (.invokevirtual 268, 3) := dk_182 1 12 (dk_at dksX4_columns_0 8 rfl rfl)
theorem dX4_columns_11 : decode cX4_columns 11 = .ok (.ireturn, 1) := dk_172 (dk_at dksX4_columns_0 11 rfl rfl)
abbrev cX4_rows : ByteArray := prog_45_method_69_code
def yX4_rows : MethodName := ⟨RX4, "rows", "()I"⟩
def dkwX4_rows_0 : List UInt8 := [42, 42, 180, 0, 35, 180, 0, 248, 182, 1, 12, 172]
abbrev dktX4_rows_0 : List UInt8 := dkwX4_rows_0 ++ []
theorem dksX4_rows_0 : cX4_rows.data.toList.drop 0 = dktX4_rows_0 := by decide +kernel
theorem dX4_rows_0 : decode cX4_rows 0 = .ok (.aload_n 0, 1) := dk_42 (dk_at dksX4_rows_0 0 rfl rfl)
theorem dX4_rows_1 : decode cX4_rows 1 = .ok (.aload_n 0, 1) := dk_42 (dk_at dksX4_rows_0 1 rfl rfl)
theorem dX4_rows_2 : decode cX4_rows 2 = .ok (.getfield 35, 3) := dk_180 0 35 (dk_at dksX4_rows_0 2 rfl rfl)
theorem dX4_rows_5 : decode cX4_rows 5 = .ok (.getfield 248, 3) := dk_180 0 248 (dk_at dksX4_rows_0 5 rfl rfl)
theorem dX4_rows_8 : decode cX4_rows 8 = .ok (.invokevirtual 268, 3) := dk_182 1 12 (dk_at dksX4_rows_0 8 rfl rfl)
theorem dX4_rows_11 : decode cX4_rows 11 = .ok (.ireturn, 1) := dk_172 (dk_at dksX4_rows_0 11 rfl rfl)
abbrev cX4_tiles : ByteArray := prog_45_method_70_code
def yX4_tiles : MethodName := ⟨RX4, "tiles", "()I"⟩
def dkwX4_tiles_0 : List UInt8 := [42, 42, 180, 0, 35, 180, 0, 150, 182, 1, 12, 172]
abbrev dktX4_tiles_0 : List UInt8 := dkwX4_tiles_0 ++ []
theorem dksX4_tiles_0 : cX4_tiles.data.toList.drop 0 = dktX4_tiles_0 := by decide +kernel
theorem dX4_tiles_0 : decode cX4_tiles 0 = .ok (.aload_n 0, 1) := dk_42 (dk_at dksX4_tiles_0 0 rfl rfl)
theorem dX4_tiles_1 : decode cX4_tiles 1 = .ok (.aload_n 0, 1) := dk_42 (dk_at dksX4_tiles_0 1 rfl rfl)
theorem dX4_tiles_2 : decode cX4_tiles 2 = .ok (.getfield 35, 3) := dk_180 0 35 (dk_at dksX4_tiles_0 2 rfl rfl)
theorem dX4_tiles_5 : decode cX4_tiles 5 = .ok (.getfield 150, 3) := dk_180 0 150 (dk_at dksX4_tiles_0 5 rfl rfl)
theorem dX4_tiles_8 : decode cX4_tiles 8 = .ok (.invokevirtual 268, 3) := dk_182 1 12 (dk_at dksX4_tiles_0 8 rfl rfl)
theorem dX4_tiles_11 : decode cX4_tiles 11 = .ok (.ireturn, 1) := dk_172 (dk_at dksX4_tiles_0 11 rfl rfl)
abbrev cX4_rounds : ByteArray := prog_45_method_71_code
def yX4_rounds : MethodName := ⟨RX4, "rounds", "()I"⟩
def dkwX4_rounds_0 : List UInt8 := [42, 42, 180, 0, 48, 180, 1, 87, 182, 1, 12, 172]
abbrev dktX4_rounds_0 : List UInt8 := dkwX4_rounds_0 ++ []
theorem dksX4_rounds_0 : cX4_rounds.data.toList.drop 0 = dktX4_rounds_0 := by decide +kernel
theorem dX4_rounds_0 : decode cX4_rounds 0 = .ok (.aload_n 0, 1) := dk_42 (dk_at dksX4_rounds_0 0 rfl rfl)
theorem dX4_rounds_1 : decode cX4_rounds 1 = .ok (.aload_n 0, 1) := dk_42 (dk_at dksX4_rounds_0 1 rfl rfl)
theorem dX4_rounds_2 : decode cX4_rounds 2 = .ok (.getfield 48, 3) := dk_180 0 48 (dk_at dksX4_rounds_0 2 rfl rfl)
theorem dX4_rounds_5 : decode cX4_rounds 5 = .ok (.getfield 343, 3) := dk_180 1 87 (dk_at dksX4_rounds_0 5 rfl rfl)
theorem dX4_rounds_8 : decode cX4_rounds 8 = .ok (.invokevirtual 268, 3) := dk_182 1 12 (dk_at dksX4_rounds_0 8 rfl rfl)
theorem dX4_rounds_11 : decode cX4_rounds 11 = .ok (.ireturn, 1) := dk_172 (dk_at dksX4_rounds_0 11 rfl rfl)
abbrev cX4_placedTiles : ByteArray := prog_45_method_72_code
def yX4_placedTiles : MethodName := ⟨RX4, "placedTiles", "()I"⟩
def dkwX4_placedTiles_0 : List UInt8 := [42, 42, 180, 0, 48, 180, 1, 40, 182, 1, 12, 172]
abbrev dktX4_placedTiles_0 : List UInt8 := dkwX4_placedTiles_0 ++ []
theorem dksX4_placedTiles_0 : cX4_placedTiles.data.toList.drop 0 = dktX4_placedTiles_0 := by decide +kernel
theorem dX4_placedTiles_0 : decode cX4_placedTiles 0 = .ok (.aload_n 0, 1) := dk_42 (dk_at dksX4_placedTiles_0 0 rfl rfl)
theorem dX4_placedTiles_1 : decode cX4_placedTiles 1 = .ok (.aload_n 0, 1) := dk_42 (dk_at dksX4_placedTiles_0 1 rfl rfl)
theorem dX4_placedTiles_2 : decode cX4_placedTiles 2 = .ok (.getfield 48, 3) := dk_180 0 48 (dk_at dksX4_placedTiles_0 2 rfl rfl)
theorem dX4_placedTiles_5 : decode cX4_placedTiles 5 = .ok (.getfield 296, 3) := dk_180 1 40 (dk_at dksX4_placedTiles_0 5 rfl rfl)
theorem dX4_placedTiles_8 : decode cX4_placedTiles 8 = .ok (.invokevirtual 268, 3) := dk_182 1 12 (dk_at dksX4_placedTiles_0 8 rfl rfl)
theorem dX4_placedTiles_11 : decode cX4_placedTiles 11 = .ok (.ireturn, 1) := dk_172 (dk_at dksX4_placedTiles_0 11 rfl rfl)
abbrev cX4_matches : ByteArray := prog_45_method_73_code
def yX4_matches : MethodName := ⟨RX4, "matches", "()I"⟩
def dkwX4_matches_0 : List UInt8 := [42, 42, 42, 180, 0, 48, 182, 1, 90, 182, 1, 12, 172]
abbrev dktX4_matches_0 : List UInt8 := dkwX4_matches_0 ++ []
theorem dksX4_matches_0 : cX4_matches.data.toList.drop 0 = dktX4_matches_0 := by decide +kernel
theorem dX4_matches_0 : decode cX4_matches 0 = .ok (.aload_n 0, 1) := dk_42 (dk_at dksX4_matches_0 0 rfl rfl)
theorem dX4_matches_1 : decode cX4_matches 1 = .ok (.aload_n 0, 1) := dk_42 (dk_at dksX4_matches_0 1 rfl rfl)
theorem dX4_matches_2 : decode cX4_matches 2 = .ok (.aload_n 0, 1) := dk_42 (dk_at dksX4_matches_0 2 rfl rfl)
theorem dX4_matches_3 : decode cX4_matches 3 = .ok (.getfield 48, 3) := dk_180 0 48 (dk_at dksX4_matches_0 3 rfl rfl)
theorem dX4_matches_6 : decode cX4_matches 6 = .ok (.invokevirtual 346, 3) := dk_182 1 90 (dk_at dksX4_matches_0 6 rfl rfl)
theorem dX4_matches_9 : decode cX4_matches 9 = .ok (.invokevirtual 268, 3) := dk_182 1 12 (dk_at dksX4_matches_0 9 rfl rfl)
theorem dX4_matches_12 : decode cX4_matches 12 = .ok (.ireturn, 1) := dk_172 (dk_at dksX4_matches_0 12 rfl rfl)
abbrev cX4_matches_2 : ByteArray := prog_45_method_56_code
def yX4_matches_2 : MethodName := ⟨RX4, "matches", "(LRingDominoModel$State;)I"⟩
def dkwX4_matches_2_1 : List UInt8 := [43, 29, 182, 1, 43, 96, 61, 132, 3, 1, 167, 255, 226, 28, 5, 108, 172]
abbrev dktX4_matches_2_1 : List UInt8 := dkwX4_matches_2_1 ++ []
def dkwX4_matches_2_0 : List UInt8 := [3, 61, 3, 62, 29, 42, 182, 1, 51, 162, 0, 28, 43, 180, 1, 24, 29, 46, 2, 159, 0, 12, 28, 42]
abbrev dktX4_matches_2_0 : List UInt8 := dkwX4_matches_2_0 ++ dktX4_matches_2_1
theorem dksX4_matches_2_0 : cX4_matches_2.data.toList.drop 0 = dktX4_matches_2_0 := by decide +kernel
theorem dksX4_matches_2_1 : cX4_matches_2.data.toList.drop 24 = dktX4_matches_2_1 := dk_seg dksX4_matches_2_0 24 rfl rfl
theorem dX4_matches_2_0 : decode cX4_matches_2 0 = .ok (.iconst 0, 1) := dk_3 (dk_at dksX4_matches_2_0 0 rfl rfl)
theorem dX4_matches_2_1 : decode cX4_matches_2 1 = .ok (.istore_n 2, 1) := dk_61 (dk_at dksX4_matches_2_0 1 rfl rfl)
theorem dX4_matches_2_2 : decode cX4_matches_2 2 = .ok (.iconst 0, 1) := dk_3 (dk_at dksX4_matches_2_0 2 rfl rfl)
theorem dX4_matches_2_3 : decode cX4_matches_2 3 = .ok (.istore_n 3, 1) := dk_62 (dk_at dksX4_matches_2_0 3 rfl rfl)
theorem dX4_matches_2_4 : decode cX4_matches_2 4 = .ok (.iload_n 3, 1) := dk_29 (dk_at dksX4_matches_2_0 4 rfl rfl)
theorem dX4_matches_2_5 : decode cX4_matches_2 5 = .ok (.aload_n 0, 1) := dk_42 (dk_at dksX4_matches_2_0 5 rfl rfl)
theorem dX4_matches_2_6 : decode cX4_matches_2 6 = .ok (.invokevirtual 307, 3) := dk_182 1 51 (dk_at dksX4_matches_2_0 6 rfl rfl)
theorem dX4_matches_2_9 : decode cX4_matches_2 9 = .ok (.if_icmp .ge 28, 3) := dk_162 0 28 (dk_at dksX4_matches_2_0 9 rfl rfl)
theorem dX4_matches_2_12 : decode cX4_matches_2 12 = .ok (.aload_n 1, 1) := dk_43 (dk_at dksX4_matches_2_0 12 rfl rfl)
theorem dX4_matches_2_13 : decode cX4_matches_2 13 = .ok (.getfield 280, 3) := dk_180 1 24 (dk_at dksX4_matches_2_0 13 rfl rfl)
theorem dX4_matches_2_16 : decode cX4_matches_2 16 = .ok (.iload_n 3, 1) := dk_29 (dk_at dksX4_matches_2_0 16 rfl rfl)
theorem dX4_matches_2_17 : decode cX4_matches_2 17 = .ok (.iaload, 1) := dk_46 (dk_at dksX4_matches_2_0 17 rfl rfl)
theorem dX4_matches_2_18 : decode cX4_matches_2 18 = .ok (.iconst (-1), 1) := dk_2 (dk_at dksX4_matches_2_0 18 rfl rfl)
theorem dX4_matches_2_19 : decode cX4_matches_2 19 = .ok (.if_icmp .eq 12, 3) := dk_159 0 12 (dk_at dksX4_matches_2_0 19 rfl rfl)
theorem dX4_matches_2_22 : decode cX4_matches_2 22 = .ok (.iload_n 2, 1) := dk_28 (dk_at dksX4_matches_2_0 22 rfl rfl)
theorem dX4_matches_2_23 : decode cX4_matches_2 23 = .ok (.aload_n 0, 1) := dk_42 (dk_at dksX4_matches_2_0 23 rfl rfl)
theorem dX4_matches_2_24 : decode cX4_matches_2 24 = .ok (.aload_n 1, 1) := dk_43 (dk_at dksX4_matches_2_1 0 rfl rfl)
theorem dX4_matches_2_25 : decode cX4_matches_2 25 = .ok (.iload_n 3, 1) := dk_29 (dk_at dksX4_matches_2_1 1 rfl rfl)
theorem dX4_matches_2_26 : decode cX4_matches_2 26 = .ok (.invokevirtual 299, 3) := dk_182 1 43 (dk_at dksX4_matches_2_1 2 rfl rfl)
theorem dX4_matches_2_29 : decode cX4_matches_2 29 = .ok (.iadd, 1) := dk_96 (dk_at dksX4_matches_2_1 5 rfl rfl)
theorem dX4_matches_2_30 : decode cX4_matches_2 30 = .ok (.istore_n 2, 1) := dk_61 (dk_at dksX4_matches_2_1 6 rfl rfl)
theorem dX4_matches_2_31 : decode cX4_matches_2 31 = .ok (.iinc 3 1, 3) := dk_132 3 1 (dk_at dksX4_matches_2_1 7 rfl rfl)
theorem dX4_matches_2_34 : decode cX4_matches_2 34 = .ok (.goto (-30), 3) := dk_167 255 226 (dk_at dksX4_matches_2_1 10 rfl rfl)
theorem dX4_matches_2_37 : decode cX4_matches_2 37 = .ok (.iload_n 2, 1) := dk_28 (dk_at dksX4_matches_2_1 13 rfl rfl)
theorem dX4_matches_2_38 : decode cX4_matches_2 38 = .ok (.iconst 2, 1) := dk_5 (dk_at dksX4_matches_2_1 14 rfl rfl)
theorem dX4_matches_2_39 : decode cX4_matches_2 39 = .ok (.idiv, 1) := dk_108 (dk_at dksX4_matches_2_1 15 rfl rfl)
theorem dX4_matches_2_40 : decode cX4_matches_2 40 = .ok (.ireturn, 1) := dk_172 (dk_at dksX4_matches_2_1 16 rfl rfl)
abbrev cX4_cells : ByteArray := prog_45_method_44_code
def yX4_cells : MethodName := ⟨RX4, "cells", "()I"⟩
def dkwX4_cells_0 : List UInt8 := [42, 180, 0, 35, 180, 0, 245, 42, 180, 0, 35, 180, 0, 248, 104, 172]
abbrev dktX4_cells_0 : List UInt8 := dkwX4_cells_0 ++ []
theorem dksX4_cells_0 : cX4_cells.data.toList.drop 0 = dktX4_cells_0 := by decide +kernel
theorem dX4_cells_0 : decode cX4_cells 0 = .ok (.aload_n 0, 1) := dk_42 (dk_at dksX4_cells_0 0 rfl rfl)
theorem dX4_cells_1 : decode cX4_cells 1 = .ok (.getfield 35, 3) := dk_180 0 35 (dk_at dksX4_cells_0 1 rfl rfl)
theorem dX4_cells_4 : decode cX4_cells 4 = .ok (.getfield 245, 3) := dk_180 0 245 (dk_at dksX4_cells_0 4 rfl rfl)
theorem dX4_cells_7 : decode cX4_cells 7 = .ok (.aload_n 0, 1) := dk_42 (dk_at dksX4_cells_0 7 rfl rfl)
theorem dX4_cells_8 : decode cX4_cells 8 = .ok (.getfield 35, 3) := dk_180 0 35 (dk_at dksX4_cells_0 8 rfl rfl)
theorem dX4_cells_11 : decode cX4_cells 11 = .ok (.getfield 248, 3) := dk_180 0 248 (dk_at dksX4_cells_0 11 rfl rfl)
theorem dX4_cells_14 : decode cX4_cells 14 = .ok (.imul, 1) := dk_104 (dk_at dksX4_cells_0 14 rfl rfl)
theorem dX4_cells_15 : decode cX4_cells 15 = .ok (.ireturn, 1) := dk_172 (dk_at dksX4_cells_0 15 rfl rfl)
abbrev cX4_tilesBeside : ByteArray := prog_45_method_50_code
def yX4_tilesBeside : MethodName := ⟨RX4, "tilesBeside", "(LRingDominoModel$State;I)I"⟩
def dkwX4_tilesBeside_1 : List UInt8 := [160, 0, 7, 3, 167, 0, 4, 4, 96, 62, 132, 4, 1, 167, 255, 226, 29, 172]
abbrev dktX4_tilesBeside_1 : List UInt8 := dkwX4_tilesBeside_1 ++ []
def dkwX4_tilesBeside_0 : List UInt8 := [3, 62, 3, 54, 4, 21, 4, 16, 6, 162, 0, 29, 29, 42, 43, 28, 21, 4, 182, 1, 33, 2]
abbrev dktX4_tilesBeside_0 : List UInt8 := dkwX4_tilesBeside_0 ++ dktX4_tilesBeside_1
theorem dksX4_tilesBeside_0 : cX4_tilesBeside.data.toList.drop 0 = dktX4_tilesBeside_0 := by decide +kernel
theorem dksX4_tilesBeside_1 : cX4_tilesBeside.data.toList.drop 22 = dktX4_tilesBeside_1 := dk_seg dksX4_tilesBeside_0 22 rfl rfl
theorem dX4_tilesBeside_0 : decode cX4_tilesBeside 0 = .ok (.iconst 0, 1) := dk_3 (dk_at dksX4_tilesBeside_0 0 rfl rfl)
theorem dX4_tilesBeside_1 : decode cX4_tilesBeside 1 = .ok (.istore_n 3, 1) := dk_62 (dk_at dksX4_tilesBeside_0 1 rfl rfl)
theorem dX4_tilesBeside_2 : decode cX4_tilesBeside 2 = .ok (.iconst 0, 1) := dk_3 (dk_at dksX4_tilesBeside_0 2 rfl rfl)
theorem dX4_tilesBeside_3 : decode cX4_tilesBeside 3 = .ok (.istore 4, 2) := dk_54 4 (dk_at dksX4_tilesBeside_0 3 rfl rfl)
theorem dX4_tilesBeside_5 : decode cX4_tilesBeside 5 = .ok (.iload 4, 2) := dk_21 4 (dk_at dksX4_tilesBeside_0 5 rfl rfl)
theorem dX4_tilesBeside_7 : decode cX4_tilesBeside 7 = .ok (.bipush 6, 2) := dk_16 6 (dk_at dksX4_tilesBeside_0 7 rfl rfl)
theorem dX4_tilesBeside_9 : decode cX4_tilesBeside 9 = .ok (.if_icmp .ge 29, 3) := dk_162 0 29 (dk_at dksX4_tilesBeside_0 9 rfl rfl)
theorem dX4_tilesBeside_12 : decode cX4_tilesBeside 12 = .ok (.iload_n 3, 1) := dk_29 (dk_at dksX4_tilesBeside_0 12 rfl rfl)
theorem dX4_tilesBeside_13 : decode cX4_tilesBeside 13 = .ok (.aload_n 0, 1) := dk_42 (dk_at dksX4_tilesBeside_0 13 rfl rfl)
theorem dX4_tilesBeside_14 : decode cX4_tilesBeside 14 = .ok (.aload_n 1, 1) := dk_43 (dk_at dksX4_tilesBeside_0 14 rfl rfl)
theorem dX4_tilesBeside_15 : decode cX4_tilesBeside 15 = .ok (.iload_n 2, 1) := dk_28 (dk_at dksX4_tilesBeside_0 15 rfl rfl)
theorem dX4_tilesBeside_16 : decode cX4_tilesBeside 16 = .ok (.iload 4, 2) := dk_21 4 (dk_at dksX4_tilesBeside_0 16 rfl rfl)
theorem dX4_tilesBeside_18 : decode cX4_tilesBeside 18 = .ok (.invokevirtual 289, 3) := dk_182 1 33 (dk_at dksX4_tilesBeside_0 18 rfl rfl)
theorem dX4_tilesBeside_21 : decode cX4_tilesBeside 21 = .ok (.iconst (-1), 1) := dk_2 (dk_at dksX4_tilesBeside_0 21 rfl rfl)
theorem dX4_tilesBeside_22 : decode cX4_tilesBeside 22 = .ok (.if_icmp .ne 7, 3) := dk_160 0 7 (dk_at dksX4_tilesBeside_1 0 rfl rfl)
theorem dX4_tilesBeside_25 : decode cX4_tilesBeside 25 = .ok (.iconst 0, 1) := dk_3 (dk_at dksX4_tilesBeside_1 3 rfl rfl)
theorem dX4_tilesBeside_26 : decode cX4_tilesBeside 26 = .ok (.goto 4, 3) := dk_167 0 4 (dk_at dksX4_tilesBeside_1 4 rfl rfl)
theorem dX4_tilesBeside_29 : decode cX4_tilesBeside 29 = .ok (.iconst 1, 1) := dk_4 (dk_at dksX4_tilesBeside_1 7 rfl rfl)
theorem dX4_tilesBeside_30 : decode cX4_tilesBeside 30 = .ok (.iadd, 1) := dk_96 (dk_at dksX4_tilesBeside_1 8 rfl rfl)
theorem dX4_tilesBeside_31 : decode cX4_tilesBeside 31 = .ok (.istore_n 3, 1) := dk_62 (dk_at dksX4_tilesBeside_1 9 rfl rfl)
theorem dX4_tilesBeside_32 : decode cX4_tilesBeside 32 = .ok (.iinc 4 1, 3) := dk_132 4 1 (dk_at dksX4_tilesBeside_1 10 rfl rfl)
theorem dX4_tilesBeside_35 : decode cX4_tilesBeside 35 = .ok (.goto (-30), 3) := dk_167 255 226 (dk_at dksX4_tilesBeside_1 13 rfl rfl)
theorem dX4_tilesBeside_38 : decode cX4_tilesBeside 38 = .ok (.iload_n 3, 1) := dk_29 (dk_at dksX4_tilesBeside_1 16 rfl rfl)
theorem dX4_tilesBeside_39 : decode cX4_tilesBeside 39 = .ok (.ireturn, 1) := dk_172 (dk_at dksX4_tilesBeside_1 17 rfl rfl)
abbrev cX4_tileBeside : ByteArray := prog_45_method_46_code
def yX4_tileBeside : MethodName := ⟨RX4, "tileBeside", "(LRingDominoModel$State;II)I"⟩
def dkwX4_tileBeside_1 : List UInt8 := [46, 172]
abbrev dktX4_tileBeside_1 : List UInt8 := dkwX4_tileBeside_1 ++ []
def dkwX4_tileBeside_0 : List UInt8 := [42, 28, 29, 182, 1, 21, 54, 4, 21, 4, 2, 160, 0, 7, 2, 167, 0, 10, 43, 180, 1, 24, 21, 4]
abbrev dktX4_tileBeside_0 : List UInt8 := dkwX4_tileBeside_0 ++ dktX4_tileBeside_1
theorem dksX4_tileBeside_0 : cX4_tileBeside.data.toList.drop 0 = dktX4_tileBeside_0 := by decide +kernel
theorem dksX4_tileBeside_1 : cX4_tileBeside.data.toList.drop 24 = dktX4_tileBeside_1 := dk_seg dksX4_tileBeside_0 24 rfl rfl
theorem dX4_tileBeside_0 : decode cX4_tileBeside 0 = .ok (.aload_n 0, 1) := dk_42 (dk_at dksX4_tileBeside_0 0 rfl rfl)
theorem dX4_tileBeside_1 : decode cX4_tileBeside 1 = .ok (.iload_n 2, 1) := dk_28 (dk_at dksX4_tileBeside_0 1 rfl rfl)
theorem dX4_tileBeside_2 : decode cX4_tileBeside 2 = .ok (.iload_n 3, 1) := dk_29 (dk_at dksX4_tileBeside_0 2 rfl rfl)
theorem dX4_tileBeside_3 : decode cX4_tileBeside 3 = .ok (.invokevirtual 277, 3) := dk_182 1 21 (dk_at dksX4_tileBeside_0 3 rfl rfl)
theorem dX4_tileBeside_6 : decode cX4_tileBeside 6 = .ok (.istore 4, 2) := dk_54 4 (dk_at dksX4_tileBeside_0 6 rfl rfl)
theorem dX4_tileBeside_8 : decode cX4_tileBeside 8 = .ok (.iload 4, 2) := dk_21 4 (dk_at dksX4_tileBeside_0 8 rfl rfl)
theorem dX4_tileBeside_10 : decode cX4_tileBeside 10 = .ok (.iconst (-1), 1) := dk_2 (dk_at dksX4_tileBeside_0 10 rfl rfl)
theorem dX4_tileBeside_11 : decode cX4_tileBeside 11 = .ok (.if_icmp .ne 7, 3) := dk_160 0 7 (dk_at dksX4_tileBeside_0 11 rfl rfl)
theorem dX4_tileBeside_14 : decode cX4_tileBeside 14 = .ok (.iconst (-1), 1) := dk_2 (dk_at dksX4_tileBeside_0 14 rfl rfl)
theorem dX4_tileBeside_15 : decode cX4_tileBeside 15 = .ok (.goto 10, 3) := dk_167 0 10 (dk_at dksX4_tileBeside_0 15 rfl rfl)
theorem dX4_tileBeside_18 : decode cX4_tileBeside 18 = .ok (.aload_n 1, 1) := dk_43 (dk_at dksX4_tileBeside_0 18 rfl rfl)
theorem dX4_tileBeside_19 : decode cX4_tileBeside 19 = .ok (.getfield 280, 3) := dk_180 1 24 (dk_at dksX4_tileBeside_0 19 rfl rfl)
theorem dX4_tileBeside_22 : decode cX4_tileBeside 22 = .ok (.iload 4, 2) := dk_21 4 (dk_at dksX4_tileBeside_0 22 rfl rfl)
theorem dX4_tileBeside_24 : decode cX4_tileBeside 24 = .ok (.iaload, 1) := dk_46 (dk_at dksX4_tileBeside_1 0 rfl rfl)
theorem dX4_tileBeside_25 : decode cX4_tileBeside 25 = .ok (.ireturn, 1) := dk_172 (dk_at dksX4_tileBeside_1 1 rfl rfl)
abbrev cX4_beside : ByteArray := prog_45_method_45_code
def yX4_beside : MethodName := ⟨RX4, "beside", "(II)I"⟩
def dkwX4_beside_3 : List UInt8 := [180, 0, 35, 180, 0, 245, 104, 29, 96, 167, 0, 4, 2, 172]
abbrev dktX4_beside_3 : List UInt8 := dkwX4_beside_3 ++ []
def dkwX4_beside_2 : List UInt8 := [153, 0, 36, 21, 4, 3, 42, 180, 0, 35, 180, 0, 248, 4, 100, 184, 0, 68, 153, 0, 18, 21, 4, 42]
abbrev dktX4_beside_2 : List UInt8 := dkwX4_beside_2 ++ dktX4_beside_3
def dkwX4_beside_1 : List UInt8 := [108, 178, 1, 18, 28, 46, 96, 54, 4, 29, 3, 42, 180, 0, 35, 180, 0, 245, 4, 100, 184, 0, 68]
abbrev dktX4_beside_1 : List UInt8 := dkwX4_beside_1 ++ dktX4_beside_2
def dkwX4_beside_0 : List UInt8 := [27, 42, 180, 0, 35, 180, 0, 245, 112, 178, 1, 15, 28, 46, 96, 62, 27, 42, 180, 0, 35, 180, 0, 245]
abbrev dktX4_beside_0 : List UInt8 := dkwX4_beside_0 ++ dktX4_beside_1
theorem dksX4_beside_0 : cX4_beside.data.toList.drop 0 = dktX4_beside_0 := by decide +kernel
theorem dksX4_beside_1 : cX4_beside.data.toList.drop 24 = dktX4_beside_1 := dk_seg dksX4_beside_0 24 rfl rfl
theorem dksX4_beside_2 : cX4_beside.data.toList.drop 47 = dktX4_beside_2 := dk_seg dksX4_beside_1 23 rfl rfl
theorem dksX4_beside_3 : cX4_beside.data.toList.drop 71 = dktX4_beside_3 := dk_seg dksX4_beside_2 24 rfl rfl
theorem dX4_beside_0 : decode cX4_beside 0 = .ok (.iload_n 1, 1) := dk_27 (dk_at dksX4_beside_0 0 rfl rfl)
theorem dX4_beside_1 : decode cX4_beside 1 = .ok (.aload_n 0, 1) := dk_42 (dk_at dksX4_beside_0 1 rfl rfl)
theorem dX4_beside_2 : decode cX4_beside 2 = .ok (.getfield 35, 3) := dk_180 0 35 (dk_at dksX4_beside_0 2 rfl rfl)
theorem dX4_beside_5 : decode cX4_beside 5 = .ok (.getfield 245, 3) := dk_180 0 245 (dk_at dksX4_beside_0 5 rfl rfl)
theorem dX4_beside_8 : decode cX4_beside 8 = .ok (.irem, 1) := dk_112 (dk_at dksX4_beside_0 8 rfl rfl)
theorem dX4_beside_9 : decode cX4_beside 9 = .ok (.getstatic 271, 3) := dk_178 1 15 (dk_at dksX4_beside_0 9 rfl rfl)
theorem dX4_beside_12 : decode cX4_beside 12 = .ok (.iload_n 2, 1) := dk_28 (dk_at dksX4_beside_0 12 rfl rfl)
theorem dX4_beside_13 : decode cX4_beside 13 = .ok (.iaload, 1) := dk_46 (dk_at dksX4_beside_0 13 rfl rfl)
theorem dX4_beside_14 : decode cX4_beside 14 = .ok (.iadd, 1) := dk_96 (dk_at dksX4_beside_0 14 rfl rfl)
theorem dX4_beside_15 : decode cX4_beside 15 = .ok (.istore_n 3, 1) := dk_62 (dk_at dksX4_beside_0 15 rfl rfl)
theorem dX4_beside_16 : decode cX4_beside 16 = .ok (.iload_n 1, 1) := dk_27 (dk_at dksX4_beside_0 16 rfl rfl)
theorem dX4_beside_17 : decode cX4_beside 17 = .ok (.aload_n 0, 1) := dk_42 (dk_at dksX4_beside_0 17 rfl rfl)
theorem dX4_beside_18 : decode cX4_beside 18 = .ok (.getfield 35, 3) := dk_180 0 35 (dk_at dksX4_beside_0 18 rfl rfl)
theorem dX4_beside_21 : decode cX4_beside 21 = .ok (.getfield 245, 3) := dk_180 0 245 (dk_at dksX4_beside_0 21 rfl rfl)
theorem dX4_beside_24 : decode cX4_beside 24 = .ok (.idiv, 1) := dk_108 (dk_at dksX4_beside_1 0 rfl rfl)
theorem dX4_beside_25 : decode cX4_beside 25 = .ok (.getstatic 274, 3) := dk_178 1 18 (dk_at dksX4_beside_1 1 rfl rfl)
theorem dX4_beside_28 : decode cX4_beside 28 = .ok (.iload_n 2, 1) := dk_28 (dk_at dksX4_beside_1 4 rfl rfl)
theorem dX4_beside_29 : decode cX4_beside 29 = .ok (.iaload, 1) := dk_46 (dk_at dksX4_beside_1 5 rfl rfl)
theorem dX4_beside_30 : decode cX4_beside 30 = .ok (.iadd, 1) := dk_96 (dk_at dksX4_beside_1 6 rfl rfl)
theorem dX4_beside_31 : decode cX4_beside 31 = .ok (.istore 4, 2) := dk_54 4 (dk_at dksX4_beside_1 7 rfl rfl)
theorem dX4_beside_33 : decode cX4_beside 33 = .ok (.iload_n 3, 1) := dk_29 (dk_at dksX4_beside_1 9 rfl rfl)
theorem dX4_beside_34 : decode cX4_beside 34 = .ok (.iconst 0, 1) := dk_3 (dk_at dksX4_beside_1 10 rfl rfl)
theorem dX4_beside_35 : decode cX4_beside 35 = .ok (.aload_n 0, 1) := dk_42 (dk_at dksX4_beside_1 11 rfl rfl)
theorem dX4_beside_36 : decode cX4_beside 36 = .ok (.getfield 35, 3) := dk_180 0 35 (dk_at dksX4_beside_1 12 rfl rfl)
theorem dX4_beside_39 : decode cX4_beside 39 = .ok (.getfield 245, 3) := dk_180 0 245 (dk_at dksX4_beside_1 15 rfl rfl)
theorem dX4_beside_42 : decode cX4_beside 42 = .ok (.iconst 1, 1) := dk_4 (dk_at dksX4_beside_1 18 rfl rfl)
theorem dX4_beside_43 : decode cX4_beside 43 = .ok (.isub, 1) := dk_100 (dk_at dksX4_beside_1 19 rfl rfl)
theorem dX4_beside_44 : decode cX4_beside 44 = .ok (.invokestatic 68, 3) := dk_184 0 68 (dk_at dksX4_beside_1 20 rfl rfl)
theorem dX4_beside_47 : decode cX4_beside 47 = .ok (.ifCond .eq 36, 3) := dk_153 0 36 (dk_at dksX4_beside_2 0 rfl rfl)
theorem dX4_beside_50 : decode cX4_beside 50 = .ok (.iload 4, 2) := dk_21 4 (dk_at dksX4_beside_2 3 rfl rfl)
theorem dX4_beside_52 : decode cX4_beside 52 = .ok (.iconst 0, 1) := dk_3 (dk_at dksX4_beside_2 5 rfl rfl)
theorem dX4_beside_53 : decode cX4_beside 53 = .ok (.aload_n 0, 1) := dk_42 (dk_at dksX4_beside_2 6 rfl rfl)
theorem dX4_beside_54 : decode cX4_beside 54 = .ok (.getfield 35, 3) := dk_180 0 35 (dk_at dksX4_beside_2 7 rfl rfl)
theorem dX4_beside_57 : decode cX4_beside 57 = .ok (.getfield 248, 3) := dk_180 0 248 (dk_at dksX4_beside_2 10 rfl rfl)
theorem dX4_beside_60 : decode cX4_beside 60 = .ok (.iconst 1, 1) := dk_4 (dk_at dksX4_beside_2 13 rfl rfl)
theorem dX4_beside_61 : decode cX4_beside 61 = .ok (.isub, 1) := dk_100 (dk_at dksX4_beside_2 14 rfl rfl)
theorem dX4_beside_62 : decode cX4_beside 62 = .ok (.invokestatic 68, 3) := dk_184 0 68 (dk_at dksX4_beside_2 15 rfl rfl)
theorem dX4_beside_65 : decode cX4_beside 65 = .ok (.ifCond .eq 18, 3) := dk_153 0 18 (dk_at dksX4_beside_2 18 rfl rfl)
theorem dX4_beside_68 : decode cX4_beside 68 = .ok (.iload 4, 2) := dk_21 4 (dk_at dksX4_beside_2 21 rfl rfl)
theorem dX4_beside_70 : decode cX4_beside 70 = .ok (.aload_n 0, 1) := dk_42 (dk_at dksX4_beside_2 23 rfl rfl)
theorem dX4_beside_71 : decode cX4_beside 71 = .ok (.getfield 35, 3) := dk_180 0 35 (dk_at dksX4_beside_3 0 rfl rfl)
theorem dX4_beside_74 : decode cX4_beside 74 = .ok (.getfield 245, 3) := dk_180 0 245 (dk_at dksX4_beside_3 3 rfl rfl)
theorem dX4_beside_77 : decode cX4_beside 77 = .ok (.imul, 1) := dk_104 (dk_at dksX4_beside_3 6 rfl rfl)
theorem dX4_beside_78 : decode cX4_beside 78 = .ok (.iload_n 3, 1) := dk_29 (dk_at dksX4_beside_3 7 rfl rfl)
theorem dX4_beside_79 : decode cX4_beside 79 = .ok (.iadd, 1) := dk_96 (dk_at dksX4_beside_3 8 rfl rfl)
theorem dX4_beside_80 : decode cX4_beside 80 = .ok (.goto 4, 3) := dk_167 0 4 (dk_at dksX4_beside_3 9 rfl rfl)
theorem dX4_beside_83 : decode cX4_beside 83 = .ok (.iconst (-1), 1) := dk_2 (dk_at dksX4_beside_3 12 rfl rfl)
theorem dX4_beside_84 : decode cX4_beside 84 = .ok (.ireturn, 1) := dk_172 (dk_at dksX4_beside_3 13 rfl rfl)
abbrev cX4_points : ByteArray := prog_45_method_74_code
def yX4_points : MethodName := ⟨RX4, "points", "()I"⟩
def dkwX4_points_0 : List UInt8 := [42, 42, 42, 180, 0, 48, 182, 1, 93, 182, 1, 12, 172]
abbrev dktX4_points_0 : List UInt8 := dkwX4_points_0 ++ []
theorem dksX4_points_0 : cX4_points.data.toList.drop 0 = dktX4_points_0 := by decide +kernel
theorem dX4_points_0 : decode cX4_points 0 = .ok (.aload_n 0, 1) := dk_42 (dk_at dksX4_points_0 0 rfl rfl)
theorem dX4_points_1 : decode cX4_points 1 = .ok (.aload_n 0, 1) := dk_42 (dk_at dksX4_points_0 1 rfl rfl)
theorem dX4_points_2 : decode cX4_points 2 = .ok (.aload_n 0, 1) := dk_42 (dk_at dksX4_points_0 2 rfl rfl)
theorem dX4_points_3 : decode cX4_points 3 = .ok (.getfield 48, 3) := dk_180 0 48 (dk_at dksX4_points_0 3 rfl rfl)
theorem dX4_points_6 : decode cX4_points 6 = .ok (.invokevirtual 349, 3) := dk_182 1 93 (dk_at dksX4_points_0 6 rfl rfl)
theorem dX4_points_9 : decode cX4_points 9 = .ok (.invokevirtual 268, 3) := dk_182 1 12 (dk_at dksX4_points_0 9 rfl rfl)
theorem dX4_points_12 : decode cX4_points 12 = .ok (.ireturn, 1) := dk_172 (dk_at dksX4_points_0 12 rfl rfl)
abbrev cX4_points_2 : ByteArray := prog_45_method_58_code
def yX4_points_2 : MethodName := ⟨RX4, "points", "(LRingDominoModel$State;)I"⟩
def dkwX4_points_2_0 : List UInt8 := [42, 43, 182, 1, 65, 16, 10, 42, 43, 182, 1, 69, 104, 96, 172]
abbrev dktX4_points_2_0 : List UInt8 := dkwX4_points_2_0 ++ []
theorem dksX4_points_2_0 : cX4_points_2.data.toList.drop 0 = dktX4_points_2_0 := by decide +kernel
theorem dX4_points_2_0 : decode cX4_points_2 0 = .ok (.aload_n 0, 1) := dk_42 (dk_at dksX4_points_2_0 0 rfl rfl)
theorem dX4_points_2_1 : decode cX4_points_2 1 = .ok (.aload_n 1, 1) := dk_43 (dk_at dksX4_points_2_0 1 rfl rfl)
theorem dX4_points_2_2 : decode cX4_points_2 2 = .ok (.invokevirtual 321, 3) := dk_182 1 65 (dk_at dksX4_points_2_0 2 rfl rfl)
theorem dX4_points_2_5 : decode cX4_points_2 5 = .ok (.bipush 10, 2) := dk_16 10 (dk_at dksX4_points_2_0 5 rfl rfl)
theorem dX4_points_2_7 : decode cX4_points_2 7 = .ok (.aload_n 0, 1) := dk_42 (dk_at dksX4_points_2_0 7 rfl rfl)
theorem dX4_points_2_8 : decode cX4_points_2 8 = .ok (.aload_n 1, 1) := dk_43 (dk_at dksX4_points_2_0 8 rfl rfl)
theorem dX4_points_2_9 : decode cX4_points_2 9 = .ok (.invokevirtual 325, 3) := dk_182 1 69 (dk_at dksX4_points_2_0 9 rfl rfl)
theorem dX4_points_2_12 : decode cX4_points_2 12 = .ok (.imul, 1) := dk_104 (dk_at dksX4_points_2_0 12 rfl rfl)
theorem dX4_points_2_13 : decode cX4_points_2 13 = .ok (.iadd, 1) := dk_96 (dk_at dksX4_points_2_0 13 rfl rfl)
theorem dX4_points_2_14 : decode cX4_points_2 14 = .ok (.ireturn, 1) := dk_172 (dk_at dksX4_points_2_0 14 rfl rfl)
abbrev cX4_matched : ByteArray := prog_45_method_57_code
def yX4_matched : MethodName := ⟨RX4, "matched", "(LRingDominoModel$State;)I"⟩
def dkwX4_matched_3 : List UInt8 := [132, 3, 1, 167, 255, 190, 28, 172]
abbrev dktX4_matched_3 : List UInt8 := dkwX4_matched_3 ++ []
def dkwX4_matched_2 : List UInt8 := [160, 0, 7, 3, 167, 0, 11, 42, 43, 29, 21, 4, 182, 1, 62, 96, 61, 132, 4, 1, 167, 255, 220]
abbrev dktX4_matched_2 : List UInt8 := dkwX4_matched_2 ++ dktX4_matched_3
def dkwX4_matched_1 : List UInt8 := [167, 0, 45, 3, 54, 4, 21, 4, 6, 162, 0, 36, 28, 42, 43, 29, 21, 4, 182, 1, 33, 2]
abbrev dktX4_matched_1 : List UInt8 := dkwX4_matched_1 ++ dktX4_matched_2
def dkwX4_matched_0 : List UInt8 := [3, 61, 3, 62, 29, 42, 182, 1, 51, 162, 0, 64, 43, 180, 1, 24, 29, 46, 2, 160, 0, 6]
abbrev dktX4_matched_0 : List UInt8 := dkwX4_matched_0 ++ dktX4_matched_1
theorem dksX4_matched_0 : cX4_matched.data.toList.drop 0 = dktX4_matched_0 := by decide +kernel
theorem dksX4_matched_1 : cX4_matched.data.toList.drop 22 = dktX4_matched_1 := dk_seg dksX4_matched_0 22 rfl rfl
theorem dksX4_matched_2 : cX4_matched.data.toList.drop 44 = dktX4_matched_2 := dk_seg dksX4_matched_1 22 rfl rfl
theorem dksX4_matched_3 : cX4_matched.data.toList.drop 67 = dktX4_matched_3 := dk_seg dksX4_matched_2 23 rfl rfl
theorem dX4_matched_0 : decode cX4_matched 0 = .ok (.iconst 0, 1) := dk_3 (dk_at dksX4_matched_0 0 rfl rfl)
theorem dX4_matched_1 : decode cX4_matched 1 = .ok (.istore_n 2, 1) := dk_61 (dk_at dksX4_matched_0 1 rfl rfl)
theorem dX4_matched_2 : decode cX4_matched 2 = .ok (.iconst 0, 1) := dk_3 (dk_at dksX4_matched_0 2 rfl rfl)
theorem dX4_matched_3 : decode cX4_matched 3 = .ok (.istore_n 3, 1) := dk_62 (dk_at dksX4_matched_0 3 rfl rfl)
theorem dX4_matched_4 : decode cX4_matched 4 = .ok (.iload_n 3, 1) := dk_29 (dk_at dksX4_matched_0 4 rfl rfl)
theorem dX4_matched_5 : decode cX4_matched 5 = .ok (.aload_n 0, 1) := dk_42 (dk_at dksX4_matched_0 5 rfl rfl)
theorem dX4_matched_6 : decode cX4_matched 6 = .ok (.invokevirtual 307, 3) := dk_182 1 51 (dk_at dksX4_matched_0 6 rfl rfl)
theorem dX4_matched_9 : decode cX4_matched 9 = .ok (.if_icmp .ge 64, 3) := dk_162 0 64 (dk_at dksX4_matched_0 9 rfl rfl)
theorem dX4_matched_12 : decode cX4_matched 12 = .ok (.aload_n 1, 1) := dk_43 (dk_at dksX4_matched_0 12 rfl rfl)
theorem dX4_matched_13 : decode cX4_matched 13 = .ok (.getfield 280, 3) := dk_180 1 24 (dk_at dksX4_matched_0 13 rfl rfl)
theorem dX4_matched_16 : decode cX4_matched 16 = .ok (.iload_n 3, 1) := dk_29 (dk_at dksX4_matched_0 16 rfl rfl)
theorem dX4_matched_17 : decode cX4_matched 17 = .ok (.iaload, 1) := dk_46 (dk_at dksX4_matched_0 17 rfl rfl)
theorem dX4_matched_18 : decode cX4_matched 18 = .ok (.iconst (-1), 1) := dk_2 (dk_at dksX4_matched_0 18 rfl rfl)
theorem dX4_matched_19 : decode cX4_matched 19 = .ok (.if_icmp .ne 6, 3) := dk_160 0 6 (dk_at dksX4_matched_0 19 rfl rfl)
theorem dX4_matched_22 : decode cX4_matched 22 = .ok (.goto 45, 3) := dk_167 0 45 (dk_at dksX4_matched_1 0 rfl rfl)
theorem dX4_matched_25 : decode cX4_matched 25 = .ok (.iconst 0, 1) := dk_3 (dk_at dksX4_matched_1 3 rfl rfl)
theorem dX4_matched_26 : decode cX4_matched 26 = .ok (.istore 4, 2) := dk_54 4 (dk_at dksX4_matched_1 4 rfl rfl)
theorem dX4_matched_28 : decode cX4_matched 28 = .ok (.iload 4, 2) := dk_21 4 (dk_at dksX4_matched_1 6 rfl rfl)
theorem dX4_matched_30 : decode cX4_matched 30 = .ok (.iconst 3, 1) := dk_6 (dk_at dksX4_matched_1 8 rfl rfl)
theorem dX4_matched_31 : decode cX4_matched 31 = .ok (.if_icmp .ge 36, 3) := dk_162 0 36 (dk_at dksX4_matched_1 9 rfl rfl)
theorem dX4_matched_34 : decode cX4_matched 34 = .ok (.iload_n 2, 1) := dk_28 (dk_at dksX4_matched_1 12 rfl rfl)
theorem dX4_matched_35 : decode cX4_matched 35 = .ok (.aload_n 0, 1) := dk_42 (dk_at dksX4_matched_1 13 rfl rfl)
theorem dX4_matched_36 : decode cX4_matched 36 = .ok (.aload_n 1, 1) := dk_43 (dk_at dksX4_matched_1 14 rfl rfl)
theorem dX4_matched_37 : decode cX4_matched 37 = .ok (.iload_n 3, 1) := dk_29 (dk_at dksX4_matched_1 15 rfl rfl)
theorem dX4_matched_38 : decode cX4_matched 38 = .ok (.iload 4, 2) := dk_21 4 (dk_at dksX4_matched_1 16 rfl rfl)
theorem dX4_matched_40 : decode cX4_matched 40 = .ok (.invokevirtual 289, 3) := dk_182 1 33 (dk_at dksX4_matched_1 18 rfl rfl)
theorem dX4_matched_43 : decode cX4_matched 43 = .ok (.iconst (-1), 1) := dk_2 (dk_at dksX4_matched_1 21 rfl rfl)
theorem dX4_matched_44 : decode cX4_matched 44 = .ok (.if_icmp .ne 7, 3) := dk_160 0 7 (dk_at dksX4_matched_2 0 rfl rfl)
theorem dX4_matched_47 : decode cX4_matched 47 = .ok (.iconst 0, 1) := dk_3 (dk_at dksX4_matched_2 3 rfl rfl)
theorem dX4_matched_48 : decode cX4_matched 48 = .ok (.goto 11, 3) := dk_167 0 11 (dk_at dksX4_matched_2 4 rfl rfl)
theorem dX4_matched_51 : decode cX4_matched 51 = .ok (.aload_n 0, 1) := dk_42 (dk_at dksX4_matched_2 7 rfl rfl)
theorem dX4_matched_52 : decode cX4_matched 52 = .ok (.aload_n 1, 1) := dk_43 (dk_at dksX4_matched_2 8 rfl rfl)
theorem dX4_matched_53 : decode cX4_matched 53 = .ok (.iload_n 3, 1) := dk_29 (dk_at dksX4_matched_2 9 rfl rfl)
theorem dX4_matched_54 : decode cX4_matched 54 = .ok (.iload 4, 2) := dk_21 4 (dk_at dksX4_matched_2 10 rfl rfl)
theorem dX4_matched_56 : decode cX4_matched 56 = .ok (.invokevirtual 318, 3) := dk_182 1 62 (dk_at dksX4_matched_2 12 rfl rfl)
theorem dX4_matched_59 : decode cX4_matched 59 = .ok (.iadd, 1) := dk_96 (dk_at dksX4_matched_2 15 rfl rfl)
theorem dX4_matched_60 : decode cX4_matched 60 = .ok (.istore_n 2, 1) := dk_61 (dk_at dksX4_matched_2 16 rfl rfl)
theorem dX4_matched_61 : decode cX4_matched 61 = .ok (.iinc 4 1, 3) := dk_132 4 1 (dk_at dksX4_matched_2 17 rfl rfl)
theorem dX4_matched_64 : decode cX4_matched 64 = .ok (.goto (-36), 3) := dk_167 255 220 (dk_at dksX4_matched_2 20 rfl rfl)
theorem dX4_matched_67 : decode cX4_matched 67 = .ok (.iinc 3 1, 3) := dk_132 3 1 (dk_at dksX4_matched_3 0 rfl rfl)
theorem dX4_matched_70 : decode cX4_matched 70 = .ok (.goto (-66), 3) := dk_167 255 190 (dk_at dksX4_matched_3 3 rfl rfl)
theorem dX4_matched_73 : decode cX4_matched 73 = .ok (.iload_n 2, 1) := dk_28 (dk_at dksX4_matched_3 6 rfl rfl)
theorem dX4_matched_74 : decode cX4_matched 74 = .ok (.ireturn, 1) := dk_172 (dk_at dksX4_matched_3 7 rfl rfl)
abbrev cX4_numberAt : ByteArray := prog_45_method_48_code
def yX4_numberAt : MethodName := ⟨RX4, "numberAt", "(LRingDominoModel$State;II)I"⟩
def dkwX4_numberAt_0 : List UInt8 := [42, 43, 180, 1, 24, 28, 46, 43, 180, 1, 27, 43, 180, 1, 24, 28, 46, 46, 29, 182, 1, 30, 172]
abbrev dktX4_numberAt_0 : List UInt8 := dkwX4_numberAt_0 ++ []
theorem dksX4_numberAt_0 : cX4_numberAt.data.toList.drop 0 = dktX4_numberAt_0 := by decide +kernel
theorem dX4_numberAt_0 : decode cX4_numberAt 0 = .ok (.aload_n 0, 1) := dk_42 (dk_at dksX4_numberAt_0 0 rfl rfl)
theorem dX4_numberAt_1 : decode cX4_numberAt 1 = .ok (.aload_n 1, 1) := dk_43 (dk_at dksX4_numberAt_0 1 rfl rfl)
theorem dX4_numberAt_2 : decode cX4_numberAt 2 = .ok (.getfield 280, 3) := dk_180 1 24 (dk_at dksX4_numberAt_0 2 rfl rfl)
theorem dX4_numberAt_5 : decode cX4_numberAt 5 = .ok (.iload_n 2, 1) := dk_28 (dk_at dksX4_numberAt_0 5 rfl rfl)
theorem dX4_numberAt_6 : decode cX4_numberAt 6 = .ok (.iaload, 1) := dk_46 (dk_at dksX4_numberAt_0 6 rfl rfl)
theorem dX4_numberAt_7 : decode cX4_numberAt 7 = .ok (.aload_n 1, 1) := dk_43 (dk_at dksX4_numberAt_0 7 rfl rfl)
theorem dX4_numberAt_8 : decode cX4_numberAt 8 = .ok (.getfield 283, 3) := dk_180 1 27 (dk_at dksX4_numberAt_0 8 rfl rfl)
theorem dX4_numberAt_11 : decode cX4_numberAt 11 = .ok (.aload_n 1, 1) := dk_43 (dk_at dksX4_numberAt_0 11 rfl rfl)
theorem dX4_numberAt_12 : decode cX4_numberAt 12 = .ok (.getfield 280, 3) := dk_180 1 24 (dk_at dksX4_numberAt_0 12 rfl rfl)
theorem dX4_numberAt_15 : decode cX4_numberAt 15 = .ok (.iload_n 2, 1) := dk_28 (dk_at dksX4_numberAt_0 15 rfl rfl)
theorem dX4_numberAt_16 : decode cX4_numberAt 16 = .ok (.iaload, 1) := dk_46 (dk_at dksX4_numberAt_0 16 rfl rfl)
theorem dX4_numberAt_17 : decode cX4_numberAt 17 = .ok (.iaload, 1) := dk_46 (dk_at dksX4_numberAt_0 17 rfl rfl)
theorem dX4_numberAt_18 : decode cX4_numberAt 18 = .ok (.iload_n 3, 1) := dk_29 (dk_at dksX4_numberAt_0 18 rfl rfl)
theorem dX4_numberAt_19 : decode cX4_numberAt 19 = .ok (.invokevirtual 286, 3) := dk_182 1 30 (dk_at dksX4_numberAt_0 19 rfl rfl)
theorem dX4_numberAt_22 : decode cX4_numberAt 22 = .ok (.ireturn, 1) := dk_172 (dk_at dksX4_numberAt_0 22 rfl rfl)
abbrev cX4_numberOf : ByteArray := prog_45_method_47_code
def yX4_numberOf : MethodName := ⟨RX4, "numberOf", "(III)I"⟩
def dkwX4_numberOf_0 : List UInt8 := [42, 180, 0, 35, 180, 0, 214, 6, 27, 104, 29, 28, 100, 16, 6, 96, 16, 6, 112, 5, 108, 96, 46, 172]
abbrev dktX4_numberOf_0 : List UInt8 := dkwX4_numberOf_0 ++ []
theorem dksX4_numberOf_0 : cX4_numberOf.data.toList.drop 0 = dktX4_numberOf_0 := by decide +kernel
theorem dX4_numberOf_0 : decode cX4_numberOf 0 = .ok (.aload_n 0, 1) := dk_42 (dk_at dksX4_numberOf_0 0 rfl rfl)
theorem dX4_numberOf_1 : decode cX4_numberOf 1 = .ok (.getfield 35, 3) := dk_180 0 35 (dk_at dksX4_numberOf_0 1 rfl rfl)
theorem dX4_numberOf_4 : decode cX4_numberOf 4 = .ok (.getfield 214, 3) := dk_180 0 214 (dk_at dksX4_numberOf_0 4 rfl rfl)
theorem dX4_numberOf_7 : decode cX4_numberOf 7 = .ok (.iconst 3, 1) := dk_6 (dk_at dksX4_numberOf_0 7 rfl rfl)
theorem dX4_numberOf_8 : decode cX4_numberOf 8 = .ok (.iload_n 1, 1) := dk_27 (dk_at dksX4_numberOf_0 8 rfl rfl)
theorem dX4_numberOf_9 : decode cX4_numberOf 9 = .ok (.imul, 1) := dk_104 (dk_at dksX4_numberOf_0 9 rfl rfl)
theorem dX4_numberOf_10 : decode cX4_numberOf 10 = .ok (.iload_n 3, 1) := dk_29 (dk_at dksX4_numberOf_0 10 rfl rfl)
theorem dX4_numberOf_11 : decode cX4_numberOf 11 = .ok (.iload_n 2, 1) := dk_28 (dk_at dksX4_numberOf_0 11 rfl rfl)
theorem dX4_numberOf_12 : decode cX4_numberOf 12 = .ok (.isub, 1) := dk_100 (dk_at dksX4_numberOf_0 12 rfl rfl)
theorem dX4_numberOf_13 : decode cX4_numberOf 13 = .ok (.bipush 6, 2) := dk_16 6 (dk_at dksX4_numberOf_0 13 rfl rfl)
theorem dX4_numberOf_15 : decode cX4_numberOf 15 = .ok (.iadd, 1) := dk_96 (dk_at dksX4_numberOf_0 15 rfl rfl)
theorem dX4_numberOf_16 : decode cX4_numberOf 16 = .ok (.bipush 6, 2) := dk_16 6 (dk_at dksX4_numberOf_0 16 rfl rfl)
theorem dX4_numberOf_18 : decode cX4_numberOf 18 = .ok (.irem, 1) := dk_112 (dk_at dksX4_numberOf_0 18 rfl rfl)
theorem dX4_numberOf_19 : decode cX4_numberOf 19 = .ok (.iconst 2, 1) := dk_5 (dk_at dksX4_numberOf_0 19 rfl rfl)
theorem dX4_numberOf_20 : decode cX4_numberOf 20 = .ok (.idiv, 1) := dk_108 (dk_at dksX4_numberOf_0 20 rfl rfl)
theorem dX4_numberOf_21 : decode cX4_numberOf 21 = .ok (.iadd, 1) := dk_96 (dk_at dksX4_numberOf_0 21 rfl rfl)
theorem dX4_numberOf_22 : decode cX4_numberOf 22 = .ok (.iaload, 1) := dk_46 (dk_at dksX4_numberOf_0 22 rfl rfl)
theorem dX4_numberOf_23 : decode cX4_numberOf 23 = .ok (.ireturn, 1) := dk_172 (dk_at dksX4_numberOf_0 23 rfl rfl)
abbrev cX4_rings : ByteArray := prog_45_method_55_code
def yX4_rings : MethodName := ⟨RX4, "rings", "(LRingDominoModel$State;)I"⟩
def dkwX4_rings_1 : List UInt8 := [167, 0, 4, 3, 96, 61, 132, 3, 1, 167, 255, 228, 28, 172]
abbrev dktX4_rings_1 : List UInt8 := dkwX4_rings_1 ++ []
def dkwX4_rings_0 : List UInt8 := [3, 61, 3, 62, 29, 42, 182, 1, 51, 162, 0, 26, 28, 42, 43, 29, 182, 1, 58, 153, 0, 7, 4]
abbrev dktX4_rings_0 : List UInt8 := dkwX4_rings_0 ++ dktX4_rings_1
theorem dksX4_rings_0 : cX4_rings.data.toList.drop 0 = dktX4_rings_0 := by decide +kernel
theorem dksX4_rings_1 : cX4_rings.data.toList.drop 23 = dktX4_rings_1 := dk_seg dksX4_rings_0 23 rfl rfl
theorem dX4_rings_0 : decode cX4_rings 0 = .ok (.iconst 0, 1) := dk_3 (dk_at dksX4_rings_0 0 rfl rfl)
theorem dX4_rings_1 : decode cX4_rings 1 = .ok (.istore_n 2, 1) := dk_61 (dk_at dksX4_rings_0 1 rfl rfl)
theorem dX4_rings_2 : decode cX4_rings 2 = .ok (.iconst 0, 1) := dk_3 (dk_at dksX4_rings_0 2 rfl rfl)
theorem dX4_rings_3 : decode cX4_rings 3 = .ok (.istore_n 3, 1) := dk_62 (dk_at dksX4_rings_0 3 rfl rfl)
theorem dX4_rings_4 : decode cX4_rings 4 = .ok (.iload_n 3, 1) := dk_29 (dk_at dksX4_rings_0 4 rfl rfl)
theorem dX4_rings_5 : decode cX4_rings 5 = .ok (.aload_n 0, 1) := dk_42 (dk_at dksX4_rings_0 5 rfl rfl)
theorem dX4_rings_6 : decode cX4_rings 6 = .ok (.invokevirtual 307, 3) := dk_182 1 51 (dk_at dksX4_rings_0 6 rfl rfl)
theorem dX4_rings_9 : decode cX4_rings 9 = .ok (.if_icmp .ge 26, 3) := dk_162 0 26 (dk_at dksX4_rings_0 9 rfl rfl)
theorem dX4_rings_12 : decode cX4_rings 12 = .ok (.iload_n 2, 1) := dk_28 (dk_at dksX4_rings_0 12 rfl rfl)
theorem dX4_rings_13 : decode cX4_rings 13 = .ok (.aload_n 0, 1) := dk_42 (dk_at dksX4_rings_0 13 rfl rfl)
theorem dX4_rings_14 : decode cX4_rings 14 = .ok (.aload_n 1, 1) := dk_43 (dk_at dksX4_rings_0 14 rfl rfl)
theorem dX4_rings_15 : decode cX4_rings 15 = .ok (.iload_n 3, 1) := dk_29 (dk_at dksX4_rings_0 15 rfl rfl)
theorem dX4_rings_16 : decode cX4_rings 16 = .ok (.invokevirtual 314, 3) := dk_182 1 58 (dk_at dksX4_rings_0 16 rfl rfl)
theorem dX4_rings_19 : decode cX4_rings 19 = .ok (.ifCond .eq 7, 3) := dk_153 0 7 (dk_at dksX4_rings_0 19 rfl rfl)
theorem dX4_rings_22 : decode cX4_rings 22 = .ok (.iconst 1, 1) := dk_4 (dk_at dksX4_rings_0 22 rfl rfl)
theorem dX4_rings_23 : decode cX4_rings 23 = .ok (.goto 4, 3) := dk_167 0 4 (dk_at dksX4_rings_1 0 rfl rfl)
theorem dX4_rings_26 : decode cX4_rings 26 = .ok (.iconst 0, 1) := dk_3 (dk_at dksX4_rings_1 3 rfl rfl)
theorem dX4_rings_27 : decode cX4_rings 27 = .ok (.iadd, 1) := dk_96 (dk_at dksX4_rings_1 4 rfl rfl)
theorem dX4_rings_28 : decode cX4_rings 28 = .ok (.istore_n 2, 1) := dk_61 (dk_at dksX4_rings_1 5 rfl rfl)
theorem dX4_rings_29 : decode cX4_rings 29 = .ok (.iinc 3 1, 3) := dk_132 3 1 (dk_at dksX4_rings_1 6 rfl rfl)
theorem dX4_rings_32 : decode cX4_rings 32 = .ok (.goto (-28), 3) := dk_167 255 228 (dk_at dksX4_rings_1 9 rfl rfl)
theorem dX4_rings_35 : decode cX4_rings 35 = .ok (.iload_n 2, 1) := dk_28 (dk_at dksX4_rings_1 12 rfl rfl)
theorem dX4_rings_36 : decode cX4_rings 36 = .ok (.ireturn, 1) := dk_172 (dk_at dksX4_rings_1 13 rfl rfl)
abbrev cX4_ring : ByteArray := prog_45_method_54_code
def yX4_ring : MethodName := ⟨RX4, "ring", "(LRingDominoModel$State;I)Z"⟩
def dkwX4_ring_0 : List UInt8 := [42, 43, 28, 182, 1, 43, 16, 6, 160, 0, 7, 4, 167, 0, 4, 3, 172]
abbrev dktX4_ring_0 : List UInt8 := dkwX4_ring_0 ++ []
theorem dksX4_ring_0 : cX4_ring.data.toList.drop 0 = dktX4_ring_0 := by decide +kernel
theorem dX4_ring_0 : decode cX4_ring 0 = .ok (.aload_n 0, 1) := dk_42 (dk_at dksX4_ring_0 0 rfl rfl)
theorem dX4_ring_1 : decode cX4_ring 1 = .ok (.aload_n 1, 1) := dk_43 (dk_at dksX4_ring_0 1 rfl rfl)
theorem dX4_ring_2 : decode cX4_ring 2 = .ok (.iload_n 2, 1) := dk_28 (dk_at dksX4_ring_0 2 rfl rfl)
theorem dX4_ring_3 : decode cX4_ring 3 = .ok (.invokevirtual 299, 3) := dk_182 1 43 (dk_at dksX4_ring_0 3 rfl rfl)
theorem dX4_ring_6 : decode cX4_ring 6 = .ok (.bipush 6, 2) := dk_16 6 (dk_at dksX4_ring_0 6 rfl rfl)
theorem dX4_ring_8 : decode cX4_ring 8 = .ok (.if_icmp .ne 7, 3) := dk_160 0 7 (dk_at dksX4_ring_0 8 rfl rfl)
theorem dX4_ring_11 : decode cX4_ring 11 = .ok (.iconst 1, 1) := dk_4 (dk_at dksX4_ring_0 11 rfl rfl)
theorem dX4_ring_12 : decode cX4_ring 12 = .ok (.goto 4, 3) := dk_167 0 4 (dk_at dksX4_ring_0 12 rfl rfl)
theorem dX4_ring_15 : decode cX4_ring 15 = .ok (.iconst 0, 1) := dk_3 (dk_at dksX4_ring_0 15 rfl rfl)
theorem dX4_ring_16 : decode cX4_ring 16 = .ok (.ireturn, 1) := dk_172 (dk_at dksX4_ring_0 16 rfl rfl)
abbrev cX4_rings_2 : ByteArray := prog_45_method_75_code
def yX4_rings_2 : MethodName := ⟨RX4, "rings", "()I"⟩
def dkwX4_rings_2_0 : List UInt8 := [42, 42, 42, 180, 0, 48, 182, 1, 69, 182, 1, 12, 172]
abbrev dktX4_rings_2_0 : List UInt8 := dkwX4_rings_2_0 ++ []
theorem dksX4_rings_2_0 : cX4_rings_2.data.toList.drop 0 = dktX4_rings_2_0 := by decide +kernel
theorem dX4_rings_2_0 : decode cX4_rings_2 0 = .ok (.aload_n 0, 1) := dk_42 (dk_at dksX4_rings_2_0 0 rfl rfl)
theorem dX4_rings_2_1 : decode cX4_rings_2 1 = .ok (.aload_n 0, 1) := dk_42 (dk_at dksX4_rings_2_0 1 rfl rfl)
theorem dX4_rings_2_2 : decode cX4_rings_2 2 = .ok (.aload_n 0, 1) := dk_42 (dk_at dksX4_rings_2_0 2 rfl rfl)
theorem dX4_rings_2_3 : decode cX4_rings_2 3 = .ok (.getfield 48, 3) := dk_180 0 48 (dk_at dksX4_rings_2_0 3 rfl rfl)
theorem dX4_rings_2_6 : decode cX4_rings_2 6 = .ok (.invokevirtual 325, 3) := dk_182 1 69 (dk_at dksX4_rings_2_0 6 rfl rfl)
theorem dX4_rings_2_9 : decode cX4_rings_2 9 = .ok (.invokevirtual 268, 3) := dk_182 1 12 (dk_at dksX4_rings_2_0 9 rfl rfl)
theorem dX4_rings_2_12 : decode cX4_rings_2 12 = .ok (.ireturn, 1) := dk_172 (dk_at dksX4_rings_2_0 12 rfl rfl)
abbrev cX4_groups : ByteArray := prog_45_method_78_code
def yX4_groups : MethodName := ⟨RX4, "groups", "()I"⟩
def dkwX4_groups_0 : List UInt8 := [42, 42, 182, 1, 129, 182, 1, 12, 172]
abbrev dktX4_groups_0 : List UInt8 := dkwX4_groups_0 ++ []
theorem dksX4_groups_0 : cX4_groups.data.toList.drop 0 = dktX4_groups_0 := by decide +kernel
theorem dX4_groups_0 : decode cX4_groups 0 = .ok (.aload_n 0, 1) := dk_42 (dk_at dksX4_groups_0 0 rfl rfl)
theorem dX4_groups_1 : decode cX4_groups 1 = .ok (.aload_n 0, 1) := dk_42 (dk_at dksX4_groups_0 1 rfl rfl)
theorem dX4_groups_2 : decode cX4_groups 2 = .ok (.invokevirtual 385, 3) := dk_182 1 129 (dk_at dksX4_groups_0 2 rfl rfl)
theorem dX4_groups_5 : decode cX4_groups 5 = .ok (.invokevirtual 268, 3) := dk_182 1 12 (dk_at dksX4_groups_0 5 rfl rfl)
theorem dX4_groups_8 : decode cX4_groups 8 = .ok (.ireturn, 1) := dk_172 (dk_at dksX4_groups_0 8 rfl rfl)
abbrev cX4_groupsOf : ByteArray := prog_45_method_77_code
def yX4_groupsOf : MethodName := ⟨RX4, "groupsOf", "()I"⟩
def dkwX4_groupsOf_3 : List UInt8 := [167, 255, 212, 27, 172]
abbrev dktX4_groupsOf_3 : List UInt8 := dkwX4_groupsOf_3 ++ []
def dkwX4_groupsOf_2 : List UInt8 := [180, 0, 58, 28, 51, 153, 0, 6, 167, 0, 11, 42, 28, 182, 1, 126, 132, 1, 1, 132, 2, 1]
abbrev dktX4_groupsOf_2 : List UInt8 := dkwX4_groupsOf_2 ++ dktX4_groupsOf_3
def dkwX4_groupsOf_1 : List UInt8 := [61, 28, 42, 182, 1, 51, 162, 0, 42, 42, 180, 0, 48, 180, 1, 24, 28, 46, 2, 159, 0, 23, 42]
abbrev dktX4_groupsOf_1 : List UInt8 := dkwX4_groupsOf_1 ++ dktX4_groupsOf_2
def dkwX4_groupsOf_0 : List UInt8 := [3, 60, 27, 16, 49, 162, 0, 16, 42, 180, 0, 58, 27, 3, 84, 132, 1, 1, 167, 255, 240, 3, 60, 3]
abbrev dktX4_groupsOf_0 : List UInt8 := dkwX4_groupsOf_0 ++ dktX4_groupsOf_1
theorem dksX4_groupsOf_0 : cX4_groupsOf.data.toList.drop 0 = dktX4_groupsOf_0 := by decide +kernel
theorem dksX4_groupsOf_1 : cX4_groupsOf.data.toList.drop 24 = dktX4_groupsOf_1 := dk_seg dksX4_groupsOf_0 24 rfl rfl
theorem dksX4_groupsOf_2 : cX4_groupsOf.data.toList.drop 47 = dktX4_groupsOf_2 := dk_seg dksX4_groupsOf_1 23 rfl rfl
theorem dksX4_groupsOf_3 : cX4_groupsOf.data.toList.drop 69 = dktX4_groupsOf_3 := dk_seg dksX4_groupsOf_2 22 rfl rfl
theorem dX4_groupsOf_0 : decode cX4_groupsOf 0 = .ok (.iconst 0, 1) := dk_3 (dk_at dksX4_groupsOf_0 0 rfl rfl)
theorem dX4_groupsOf_1 : decode cX4_groupsOf 1 = .ok (.istore_n 1, 1) := dk_60 (dk_at dksX4_groupsOf_0 1 rfl rfl)
theorem dX4_groupsOf_2 : decode cX4_groupsOf 2 = .ok (.iload_n 1, 1) := dk_27 (dk_at dksX4_groupsOf_0 2 rfl rfl)
theorem dX4_groupsOf_3 : decode cX4_groupsOf 3 = .ok (.bipush 49, 2) := dk_16 49 (dk_at dksX4_groupsOf_0 3 rfl rfl)
theorem dX4_groupsOf_5 : decode cX4_groupsOf 5 = .ok (.if_icmp .ge 16, 3) := dk_162 0 16 (dk_at dksX4_groupsOf_0 5 rfl rfl)
theorem dX4_groupsOf_8 : decode cX4_groupsOf 8 = .ok (.aload_n 0, 1) := dk_42 (dk_at dksX4_groupsOf_0 8 rfl rfl)
theorem dX4_groupsOf_9 : decode cX4_groupsOf 9 = .ok (.getfield 58, 3) := dk_180 0 58 (dk_at dksX4_groupsOf_0 9 rfl rfl)
theorem dX4_groupsOf_12 : decode cX4_groupsOf 12 = .ok (.iload_n 1, 1) := dk_27 (dk_at dksX4_groupsOf_0 12 rfl rfl)
theorem dX4_groupsOf_13 : decode cX4_groupsOf 13 = .ok (.iconst 0, 1) := dk_3 (dk_at dksX4_groupsOf_0 13 rfl rfl)
theorem dX4_groupsOf_14 : decode cX4_groupsOf 14 = .ok (.bastore, 1) := dk_84 (dk_at dksX4_groupsOf_0 14 rfl rfl)
theorem dX4_groupsOf_15 : decode cX4_groupsOf 15 = .ok (.iinc 1 1, 3) := dk_132 1 1 (dk_at dksX4_groupsOf_0 15 rfl rfl)
theorem dX4_groupsOf_18 : decode cX4_groupsOf 18 = .ok (.goto (-16), 3) := dk_167 255 240 (dk_at dksX4_groupsOf_0 18 rfl rfl)
theorem dX4_groupsOf_21 : decode cX4_groupsOf 21 = .ok (.iconst 0, 1) := dk_3 (dk_at dksX4_groupsOf_0 21 rfl rfl)
theorem dX4_groupsOf_22 : decode cX4_groupsOf 22 = .ok (.istore_n 1, 1) := dk_60 (dk_at dksX4_groupsOf_0 22 rfl rfl)
theorem dX4_groupsOf_23 : decode cX4_groupsOf 23 = .ok (.iconst 0, 1) := dk_3 (dk_at dksX4_groupsOf_0 23 rfl rfl)
theorem dX4_groupsOf_24 : decode cX4_groupsOf 24 = .ok (.istore_n 2, 1) := dk_61 (dk_at dksX4_groupsOf_1 0 rfl rfl)
theorem dX4_groupsOf_25 : decode cX4_groupsOf 25 = .ok (.iload_n 2, 1) := dk_28 (dk_at dksX4_groupsOf_1 1 rfl rfl)
theorem dX4_groupsOf_26 : decode cX4_groupsOf 26 = .ok (.aload_n 0, 1) := dk_42 (dk_at dksX4_groupsOf_1 2 rfl rfl)
theorem dX4_groupsOf_27 : decode cX4_groupsOf 27 = .ok (.invokevirtual 307, 3) := dk_182 1 51 (dk_at dksX4_groupsOf_1 3 rfl rfl)
theorem dX4_groupsOf_30 : decode cX4_groupsOf 30 = .ok (.if_icmp .ge 42, 3) := dk_162 0 42 (dk_at dksX4_groupsOf_1 6 rfl rfl)
theorem dX4_groupsOf_33 : decode cX4_groupsOf 33 = .ok (.aload_n 0, 1) := dk_42 (dk_at dksX4_groupsOf_1 9 rfl rfl)
theorem dX4_groupsOf_34 : decode cX4_groupsOf 34 = .ok (.getfield 48, 3) := dk_180 0 48 (dk_at dksX4_groupsOf_1 10 rfl rfl)
theorem dX4_groupsOf_37 : decode cX4_groupsOf 37 = .ok (.getfield 280, 3) := dk_180 1 24 (dk_at dksX4_groupsOf_1 13 rfl rfl)
theorem dX4_groupsOf_40 : decode cX4_groupsOf 40 = .ok (.iload_n 2, 1) := dk_28 (dk_at dksX4_groupsOf_1 16 rfl rfl)
theorem dX4_groupsOf_41 : decode cX4_groupsOf 41 = .ok (.iaload, 1) := dk_46 (dk_at dksX4_groupsOf_1 17 rfl rfl)
theorem dX4_groupsOf_42 : decode cX4_groupsOf 42 = .ok (.iconst (-1), 1) := dk_2 (dk_at dksX4_groupsOf_1 18 rfl rfl)
theorem dX4_groupsOf_43 : decode cX4_groupsOf 43 = .ok (.if_icmp .eq 23, 3) := dk_159 0 23 (dk_at dksX4_groupsOf_1 19 rfl rfl)
theorem dX4_groupsOf_46 : decode cX4_groupsOf 46 = .ok (.aload_n 0, 1) := dk_42 (dk_at dksX4_groupsOf_1 22 rfl rfl)
theorem dX4_groupsOf_47 : decode cX4_groupsOf 47 = .ok (.getfield 58, 3) := dk_180 0 58 (dk_at dksX4_groupsOf_2 0 rfl rfl)
theorem dX4_groupsOf_50 : decode cX4_groupsOf 50 = .ok (.iload_n 2, 1) := dk_28 (dk_at dksX4_groupsOf_2 3 rfl rfl)
theorem dX4_groupsOf_51 : decode cX4_groupsOf 51 = .ok (.baload, 1) := dk_51 (dk_at dksX4_groupsOf_2 4 rfl rfl)
theorem dX4_groupsOf_52 : decode cX4_groupsOf 52 = .ok (.ifCond .eq 6, 3) := dk_153 0 6 (dk_at dksX4_groupsOf_2 5 rfl rfl)
theorem dX4_groupsOf_55 : decode cX4_groupsOf 55 = .ok (.goto 11, 3) := dk_167 0 11 (dk_at dksX4_groupsOf_2 8 rfl rfl)
theorem dX4_groupsOf_58 : decode cX4_groupsOf 58 = .ok (.aload_n 0, 1) := dk_42 (dk_at dksX4_groupsOf_2 11 rfl rfl)
theorem dX4_groupsOf_59 : decode cX4_groupsOf 59 = .ok (.iload_n 2, 1) := dk_28 (dk_at dksX4_groupsOf_2 12 rfl rfl)
theorem dX4_groupsOf_60 : decode cX4_groupsOf 60 = .ok (.invokevirtual 382, 3) := dk_182 1 126 (dk_at dksX4_groupsOf_2 13 rfl rfl)
theorem dX4_groupsOf_63 : decode cX4_groupsOf 63 = .ok (.iinc 1 1, 3) := dk_132 1 1 (dk_at dksX4_groupsOf_2 16 rfl rfl)
theorem dX4_groupsOf_66 : decode cX4_groupsOf 66 = .ok (.iinc 2 1, 3) := dk_132 2 1 (dk_at dksX4_groupsOf_2 19 rfl rfl)
theorem dX4_groupsOf_69 : decode cX4_groupsOf 69 = .ok (.goto (-44), 3) := dk_167 255 212 (dk_at dksX4_groupsOf_3 0 rfl rfl)
theorem dX4_groupsOf_72 : decode cX4_groupsOf 72 = .ok (.iload_n 1, 1) := dk_27 (dk_at dksX4_groupsOf_3 3 rfl rfl)
theorem dX4_groupsOf_73 : decode cX4_groupsOf 73 = .ok (.ireturn, 1) := dk_172 (dk_at dksX4_groupsOf_3 4 rfl rfl)
abbrev cX4_reach : ByteArray := prog_45_method_76_code
def yX4_reach : MethodName := ⟨RX4, "reach", "(I)V"⟩
def dkwX4_reach_4 : List UInt8 := [79, 132, 2, 1, 132, 4, 1, 167, 255, 180, 132, 3, 1, 167, 255, 166, 177]
abbrev dktX4_reach_4 : List UInt8 := dkwX4_reach_4 ++ []
def dkwX4_reach_3 : List UInt8 := [21, 5, 51, 153, 0, 6, 167, 0, 22, 42, 180, 0, 58, 21, 5, 4, 84, 42, 180, 0, 55, 28, 21, 5]
abbrev dktX4_reach_3 : List UInt8 := dkwX4_reach_3 ++ dktX4_reach_4
def dkwX4_reach_2 : List UInt8 := [21, 5, 2, 159, 0, 49, 42, 180, 0, 48, 180, 1, 24, 21, 5, 46, 2, 159, 0, 35, 42, 180, 0, 58]
abbrev dktX4_reach_2 : List UInt8 := dkwX4_reach_2 ++ dktX4_reach_3
def dkwX4_reach_1 : List UInt8 := [54, 4, 21, 4, 16, 6, 162, 0, 75, 42, 42, 180, 0, 55, 29, 46, 21, 4, 182, 1, 21, 54, 5]
abbrev dktX4_reach_1 : List UInt8 := dkwX4_reach_1 ++ dktX4_reach_2
def dkwX4_reach_0 : List UInt8 := [4, 61, 42, 180, 0, 55, 3, 27, 79, 42, 180, 0, 58, 27, 4, 84, 3, 62, 29, 28, 162, 0, 91, 3]
abbrev dktX4_reach_0 : List UInt8 := dkwX4_reach_0 ++ dktX4_reach_1
theorem dksX4_reach_0 : cX4_reach.data.toList.drop 0 = dktX4_reach_0 := by decide +kernel
theorem dksX4_reach_1 : cX4_reach.data.toList.drop 24 = dktX4_reach_1 := dk_seg dksX4_reach_0 24 rfl rfl
theorem dksX4_reach_2 : cX4_reach.data.toList.drop 47 = dktX4_reach_2 := dk_seg dksX4_reach_1 23 rfl rfl
theorem dksX4_reach_3 : cX4_reach.data.toList.drop 71 = dktX4_reach_3 := dk_seg dksX4_reach_2 24 rfl rfl
theorem dksX4_reach_4 : cX4_reach.data.toList.drop 95 = dktX4_reach_4 := dk_seg dksX4_reach_3 24 rfl rfl
theorem dX4_reach_0 : decode cX4_reach 0 = .ok (.iconst 1, 1) := dk_4 (dk_at dksX4_reach_0 0 rfl rfl)
theorem dX4_reach_1 : decode cX4_reach 1 = .ok (.istore_n 2, 1) := dk_61 (dk_at dksX4_reach_0 1 rfl rfl)
theorem dX4_reach_2 : decode cX4_reach 2 = .ok (.aload_n 0, 1) := dk_42 (dk_at dksX4_reach_0 2 rfl rfl)
theorem dX4_reach_3 : decode cX4_reach 3 = .ok (.getfield 55, 3) := dk_180 0 55 (dk_at dksX4_reach_0 3 rfl rfl)
theorem dX4_reach_6 : decode cX4_reach 6 = .ok (.iconst 0, 1) := dk_3 (dk_at dksX4_reach_0 6 rfl rfl)
theorem dX4_reach_7 : decode cX4_reach 7 = .ok (.iload_n 1, 1) := dk_27 (dk_at dksX4_reach_0 7 rfl rfl)
theorem dX4_reach_8 : decode cX4_reach 8 = .ok (.iastore, 1) := dk_79 (dk_at dksX4_reach_0 8 rfl rfl)
theorem dX4_reach_9 : decode cX4_reach 9 = .ok (.aload_n 0, 1) := dk_42 (dk_at dksX4_reach_0 9 rfl rfl)
theorem dX4_reach_10 : decode cX4_reach 10 = .ok (.getfield 58, 3) := dk_180 0 58 (dk_at dksX4_reach_0 10 rfl rfl)
theorem dX4_reach_13 : decode cX4_reach 13 = .ok (.iload_n 1, 1) := dk_27 (dk_at dksX4_reach_0 13 rfl rfl)
theorem dX4_reach_14 : decode cX4_reach 14 = .ok (.iconst 1, 1) := dk_4 (dk_at dksX4_reach_0 14 rfl rfl)
theorem dX4_reach_15 : decode cX4_reach 15 = .ok (.bastore, 1) := dk_84 (dk_at dksX4_reach_0 15 rfl rfl)
theorem dX4_reach_16 : decode cX4_reach 16 = .ok (.iconst 0, 1) := dk_3 (dk_at dksX4_reach_0 16 rfl rfl)
theorem dX4_reach_17 : decode cX4_reach 17 = .ok (.istore_n 3, 1) := dk_62 (dk_at dksX4_reach_0 17 rfl rfl)
theorem dX4_reach_18 : decode cX4_reach 18 = .ok (.iload_n 3, 1) := dk_29 (dk_at dksX4_reach_0 18 rfl rfl)
theorem dX4_reach_19 : decode cX4_reach 19 = .ok (.iload_n 2, 1) := dk_28 (dk_at dksX4_reach_0 19 rfl rfl)
theorem dX4_reach_20 : decode cX4_reach 20 = .ok (.if_icmp .ge 91, 3) := dk_162 0 91 (dk_at dksX4_reach_0 20 rfl rfl)
theorem dX4_reach_23 : decode cX4_reach 23 = .ok (.iconst 0, 1) := dk_3 (dk_at dksX4_reach_0 23 rfl rfl)
theorem dX4_reach_24 : decode cX4_reach 24 = .ok (.istore 4, 2) := dk_54 4 (dk_at dksX4_reach_1 0 rfl rfl)
theorem dX4_reach_26 : decode cX4_reach 26 = .ok (.iload 4, 2) := dk_21 4 (dk_at dksX4_reach_1 2 rfl rfl)
theorem dX4_reach_28 : decode cX4_reach 28 = .ok (.bipush 6, 2) := dk_16 6 (dk_at dksX4_reach_1 4 rfl rfl)
theorem dX4_reach_30 : decode cX4_reach 30 = .ok (.if_icmp .ge 75, 3) := dk_162 0 75 (dk_at dksX4_reach_1 6 rfl rfl)
theorem dX4_reach_33 : decode cX4_reach 33 = .ok (.aload_n 0, 1) := dk_42 (dk_at dksX4_reach_1 9 rfl rfl)
theorem dX4_reach_34 : decode cX4_reach 34 = .ok (.aload_n 0, 1) := dk_42 (dk_at dksX4_reach_1 10 rfl rfl)
theorem dX4_reach_35 : decode cX4_reach 35 = .ok (.getfield 55, 3) := dk_180 0 55 (dk_at dksX4_reach_1 11 rfl rfl)
theorem dX4_reach_38 : decode cX4_reach 38 = .ok (.iload_n 3, 1) := dk_29 (dk_at dksX4_reach_1 14 rfl rfl)
theorem dX4_reach_39 : decode cX4_reach 39 = .ok (.iaload, 1) := dk_46 (dk_at dksX4_reach_1 15 rfl rfl)
theorem dX4_reach_40 : decode cX4_reach 40 = .ok (.iload 4, 2) := dk_21 4 (dk_at dksX4_reach_1 16 rfl rfl)
theorem dX4_reach_42 : decode cX4_reach 42 = .ok (.invokevirtual 277, 3) := dk_182 1 21 (dk_at dksX4_reach_1 18 rfl rfl)
theorem dX4_reach_45 : decode cX4_reach 45 = .ok (.istore 5, 2) := dk_54 5 (dk_at dksX4_reach_1 21 rfl rfl)
theorem dX4_reach_47 : decode cX4_reach 47 = .ok (.iload 5, 2) := dk_21 5 (dk_at dksX4_reach_2 0 rfl rfl)
theorem dX4_reach_49 : decode cX4_reach 49 = .ok (.iconst (-1), 1) := dk_2 (dk_at dksX4_reach_2 2 rfl rfl)
theorem dX4_reach_50 : decode cX4_reach 50 = .ok (.if_icmp .eq 49, 3) := dk_159 0 49 (dk_at dksX4_reach_2 3 rfl rfl)
theorem dX4_reach_53 : decode cX4_reach 53 = .ok (.aload_n 0, 1) := dk_42 (dk_at dksX4_reach_2 6 rfl rfl)
theorem dX4_reach_54 : decode cX4_reach 54 = .ok (.getfield 48, 3) := dk_180 0 48 (dk_at dksX4_reach_2 7 rfl rfl)
theorem dX4_reach_57 : decode cX4_reach 57 = .ok (.getfield 280, 3) := dk_180 1 24 (dk_at dksX4_reach_2 10 rfl rfl)
theorem dX4_reach_60 : decode cX4_reach 60 = .ok (.iload 5, 2) := dk_21 5 (dk_at dksX4_reach_2 13 rfl rfl)
theorem dX4_reach_62 : decode cX4_reach 62 = .ok (.iaload, 1) := dk_46 (dk_at dksX4_reach_2 15 rfl rfl)
theorem dX4_reach_63 : decode cX4_reach 63 = .ok (.iconst (-1), 1) := dk_2 (dk_at dksX4_reach_2 16 rfl rfl)
theorem dX4_reach_64 : decode cX4_reach 64 = .ok (.if_icmp .eq 35, 3) := dk_159 0 35 (dk_at dksX4_reach_2 17 rfl rfl)
theorem dX4_reach_67 : decode cX4_reach 67 = .ok (.aload_n 0, 1) := dk_42 (dk_at dksX4_reach_2 20 rfl rfl)
theorem dX4_reach_68 : decode cX4_reach 68 = .ok (.getfield 58, 3) := dk_180 0 58 (dk_at dksX4_reach_2 21 rfl rfl)
theorem dX4_reach_71 : decode cX4_reach 71 = .ok (.iload 5, 2) := dk_21 5 (dk_at dksX4_reach_3 0 rfl rfl)
theorem dX4_reach_73 : decode cX4_reach 73 = .ok (.baload, 1) := dk_51 (dk_at dksX4_reach_3 2 rfl rfl)
theorem dX4_reach_74 : decode cX4_reach 74 = .ok (.ifCond .eq 6, 3) := dk_153 0 6 (dk_at dksX4_reach_3 3 rfl rfl)
theorem dX4_reach_77 : decode cX4_reach 77 = .ok (.goto 22, 3) := dk_167 0 22 (dk_at dksX4_reach_3 6 rfl rfl)
theorem dX4_reach_80 : decode cX4_reach 80 = .ok (.aload_n 0, 1) := dk_42 (dk_at dksX4_reach_3 9 rfl rfl)
theorem dX4_reach_81 : decode cX4_reach 81 = .ok (.getfield 58, 3) := dk_180 0 58 (dk_at dksX4_reach_3 10 rfl rfl)
theorem dX4_reach_84 : decode cX4_reach 84 = .ok (.iload 5, 2) := dk_21 5 (dk_at dksX4_reach_3 13 rfl rfl)
theorem dX4_reach_86 : decode cX4_reach 86 = .ok (.iconst 1, 1) := dk_4 (dk_at dksX4_reach_3 15 rfl rfl)
theorem dX4_reach_87 : decode cX4_reach 87 = .ok (.bastore, 1) := dk_84 (dk_at dksX4_reach_3 16 rfl rfl)
theorem dX4_reach_88 : decode cX4_reach 88 = .ok (.aload_n 0, 1) := dk_42 (dk_at dksX4_reach_3 17 rfl rfl)
theorem dX4_reach_89 : decode cX4_reach 89 = .ok (.getfield 55, 3) := dk_180 0 55 (dk_at dksX4_reach_3 18 rfl rfl)
theorem dX4_reach_92 : decode cX4_reach 92 = .ok (.iload_n 2, 1) := dk_28 (dk_at dksX4_reach_3 21 rfl rfl)
theorem dX4_reach_93 : decode cX4_reach 93 = .ok (.iload 5, 2) := dk_21 5 (dk_at dksX4_reach_3 22 rfl rfl)
theorem dX4_reach_95 : decode cX4_reach 95 = .ok (.iastore, 1) := dk_79 (dk_at dksX4_reach_4 0 rfl rfl)
theorem dX4_reach_96 : decode cX4_reach 96 = .ok (.iinc 2 1, 3) := dk_132 2 1 (dk_at dksX4_reach_4 1 rfl rfl)
theorem dX4_reach_99 : decode cX4_reach 99 = .ok (.iinc 4 1, 3) := dk_132 4 1 (dk_at dksX4_reach_4 4 rfl rfl)
theorem dX4_reach_102 : decode cX4_reach 102 = .ok (.goto (-76), 3) := dk_167 255 180 (dk_at dksX4_reach_4 7 rfl rfl)
theorem dX4_reach_105 : decode cX4_reach 105 = .ok (.iinc 3 1, 3) := dk_132 3 1 (dk_at dksX4_reach_4 10 rfl rfl)
theorem dX4_reach_108 : decode cX4_reach 108 = .ok (.goto (-90), 3) := dk_167 255 166 (dk_at dksX4_reach_4 13 rfl rfl)
theorem dX4_reach_111 : decode cX4_reach 111 = .ok (.return_, 1) := dk_177 (dk_at dksX4_reach_4 16 rfl rfl)
abbrev cX4_hasTile : ByteArray := prog_45_method_82_code
def yX4_hasTile : MethodName := ⟨RX4, "hasTile", "(I)Z"⟩
def dkwX4_hasTile_1 : List UInt8 := [159, 0, 7, 4, 167, 0, 12, 3, 167, 0, 8, 42, 4, 182, 1, 135, 172]
abbrev dktX4_hasTile_1 : List UInt8 := dkwX4_hasTile_1 ++ []
def dkwX4_hasTile_0 : List UInt8 := [42, 3, 181, 0, 65, 42, 27, 182, 1, 132, 153, 0, 24, 42, 180, 0, 48, 180, 1, 24, 27, 46, 2]
abbrev dktX4_hasTile_0 : List UInt8 := dkwX4_hasTile_0 ++ dktX4_hasTile_1
theorem dksX4_hasTile_0 : cX4_hasTile.data.toList.drop 0 = dktX4_hasTile_0 := by decide +kernel
theorem dksX4_hasTile_1 : cX4_hasTile.data.toList.drop 23 = dktX4_hasTile_1 := dk_seg dksX4_hasTile_0 23 rfl rfl
theorem dX4_hasTile_0 : decode cX4_hasTile 0 = .ok (.aload_n 0, 1) := dk_42 (dk_at dksX4_hasTile_0 0 rfl rfl)
theorem dX4_hasTile_1 : decode cX4_hasTile 1 = .ok (.iconst 0, 1) := dk_3 (dk_at dksX4_hasTile_0 1 rfl rfl)
theorem dX4_hasTile_2 : decode cX4_hasTile 2 = .ok (.putfield 65, 3) := dk_181 0 65 (dk_at dksX4_hasTile_0 2 rfl rfl)
theorem dX4_hasTile_5 : decode cX4_hasTile 5 = .ok (.aload_n 0, 1) := dk_42 (dk_at dksX4_hasTile_0 5 rfl rfl)
theorem dX4_hasTile_6 : decode cX4_hasTile 6 = .ok (.iload_n 1, 1) := dk_27 (dk_at dksX4_hasTile_0 6 rfl rfl)
theorem dX4_hasTile_7 : decode cX4_hasTile 7 = .ok (.invokevirtual 388, 3) := dk_182 1 132 (dk_at dksX4_hasTile_0 7 rfl rfl)
theorem dX4_hasTile_10 : decode cX4_hasTile 10 = .ok (.ifCond .eq 24, 3) := dk_153 0 24 (dk_at dksX4_hasTile_0 10 rfl rfl)
theorem dX4_hasTile_13 : decode cX4_hasTile 13 = .ok (.aload_n 0, 1) := dk_42 (dk_at dksX4_hasTile_0 13 rfl rfl)
theorem dX4_hasTile_14 : decode cX4_hasTile 14 = .ok (.getfield 48, 3) := dk_180 0 48 (dk_at dksX4_hasTile_0 14 rfl rfl)
theorem dX4_hasTile_17 : decode cX4_hasTile 17 = .ok (.getfield 280, 3) := dk_180 1 24 (dk_at dksX4_hasTile_0 17 rfl rfl)
theorem dX4_hasTile_20 : decode cX4_hasTile 20 = .ok (.iload_n 1, 1) := dk_27 (dk_at dksX4_hasTile_0 20 rfl rfl)
theorem dX4_hasTile_21 : decode cX4_hasTile 21 = .ok (.iaload, 1) := dk_46 (dk_at dksX4_hasTile_0 21 rfl rfl)
theorem dX4_hasTile_22 : decode cX4_hasTile 22 = .ok (.iconst (-1), 1) := dk_2 (dk_at dksX4_hasTile_0 22 rfl rfl)
theorem dX4_hasTile_23 : decode cX4_hasTile 23 = .ok (.if_icmp .eq 7, 3) := dk_159 0 7 (dk_at dksX4_hasTile_1 0 rfl rfl)
theorem dX4_hasTile_26 : decode cX4_hasTile 26 = .ok (.iconst 1, 1) := dk_4 (dk_at dksX4_hasTile_1 3 rfl rfl)
theorem dX4_hasTile_27 : decode cX4_hasTile 27 = .ok (.goto 12, 3) := dk_167 0 12 (dk_at dksX4_hasTile_1 4 rfl rfl)
theorem dX4_hasTile_30 : decode cX4_hasTile 30 = .ok (.iconst 0, 1) := dk_3 (dk_at dksX4_hasTile_1 7 rfl rfl)
theorem dX4_hasTile_31 : decode cX4_hasTile 31 = .ok (.goto 8, 3) := dk_167 0 8 (dk_at dksX4_hasTile_1 8 rfl rfl)
theorem dX4_hasTile_34 : decode cX4_hasTile 34 = .ok (.aload_n 0, 1) := dk_42 (dk_at dksX4_hasTile_1 11 rfl rfl)
theorem dX4_hasTile_35 : decode cX4_hasTile 35 = .ok (.iconst 1, 1) := dk_4 (dk_at dksX4_hasTile_1 12 rfl rfl)
theorem dX4_hasTile_36 : decode cX4_hasTile 36 = .ok (.invokevirtual 391, 3) := dk_182 1 135 (dk_at dksX4_hasTile_1 13 rfl rfl)
theorem dX4_hasTile_39 : decode cX4_hasTile 39 = .ok (.ireturn, 1) := dk_172 (dk_at dksX4_hasTile_1 16 rfl rfl)
abbrev cX4_isCell : ByteArray := prog_45_method_79_code
def yX4_isCell : MethodName := ⟨RX4, "isCell", "(I)Z"⟩
def dkwX4_isCell_0 : List UInt8 := [27, 3, 42, 182, 1, 51, 4, 100, 184, 0, 68, 172]
abbrev dktX4_isCell_0 : List UInt8 := dkwX4_isCell_0 ++ []
theorem dksX4_isCell_0 : cX4_isCell.data.toList.drop 0 = dktX4_isCell_0 := by decide +kernel
theorem dX4_isCell_0 : decode cX4_isCell 0 = .ok (.iload_n 1, 1) := dk_27 (dk_at dksX4_isCell_0 0 rfl rfl)
theorem dX4_isCell_1 : decode cX4_isCell 1 = .ok (.iconst 0, 1) := dk_3 (dk_at dksX4_isCell_0 1 rfl rfl)
theorem dX4_isCell_2 : decode cX4_isCell 2 = .ok (.aload_n 0, 1) := dk_42 (dk_at dksX4_isCell_0 2 rfl rfl)
theorem dX4_isCell_3 : decode cX4_isCell 3 = .ok (.invokevirtual 307, 3) := dk_182 1 51 (dk_at dksX4_isCell_0 3 rfl rfl)
theorem dX4_isCell_6 : decode cX4_isCell 6 = .ok (.iconst 1, 1) := dk_4 (dk_at dksX4_isCell_0 6 rfl rfl)
theorem dX4_isCell_7 : decode cX4_isCell 7 = .ok (.isub, 1) := dk_100 (dk_at dksX4_isCell_0 7 rfl rfl)
theorem dX4_isCell_8 : decode cX4_isCell 8 = .ok (.invokestatic 68, 3) := dk_184 0 68 (dk_at dksX4_isCell_0 8 rfl rfl)
theorem dX4_isCell_11 : decode cX4_isCell 11 = .ok (.ireturn, 1) := dk_172 (dk_at dksX4_isCell_0 11 rfl rfl)
abbrev cX4_isNot : ByteArray := prog_45_method_4_code
def yX4_isNot : MethodName := ⟨RX4, "isNot", "(I)Z"⟩
def dkwX4_isNot_0 : List UInt8 := [42, 27, 181, 0, 65, 3, 172]
abbrev dktX4_isNot_0 : List UInt8 := dkwX4_isNot_0 ++ []
theorem dksX4_isNot_0 : cX4_isNot.data.toList.drop 0 = dktX4_isNot_0 := by decide +kernel
theorem dX4_isNot_0 : decode cX4_isNot 0 = .ok (.aload_n 0, 1) := dk_42 (dk_at dksX4_isNot_0 0 rfl rfl)
theorem dX4_isNot_1 : decode cX4_isNot 1 = .ok (.iload_n 1, 1) := dk_27 (dk_at dksX4_isNot_0 1 rfl rfl)
theorem dX4_isNot_2 : decode cX4_isNot 2 = .ok (.putfield 65, 3) := dk_181 0 65 (dk_at dksX4_isNot_0 2 rfl rfl)
theorem dX4_isNot_5 : decode cX4_isNot 5 = .ok (.iconst 0, 1) := dk_3 (dk_at dksX4_isNot_0 5 rfl rfl)
theorem dX4_isNot_6 : decode cX4_isNot 6 = .ok (.ireturn, 1) := dk_172 (dk_at dksX4_isNot_0 6 rfl rfl)
abbrev cX4_tileAt : ByteArray := prog_45_method_83_code
def yX4_tileAt : MethodName := ⟨RX4, "tileAt", "(I)I"⟩
def dkwX4_tileAt_2 : List UInt8 := [27, 46, 172]
abbrev dktX4_tileAt_2 : List UInt8 := dkwX4_tileAt_2 ++ []
def dkwX4_tileAt_1 : List UInt8 := [180, 1, 24, 27, 46, 2, 160, 0, 11, 42, 5, 182, 0, 254, 167, 0, 12, 42, 180, 0, 48, 180, 1, 24]
abbrev dktX4_tileAt_1 : List UInt8 := dkwX4_tileAt_1 ++ dktX4_tileAt_2
def dkwX4_tileAt_0 : List UInt8 := [42, 3, 181, 0, 65, 42, 27, 182, 1, 132, 154, 0, 9, 42, 4, 182, 0, 254, 172, 42, 180, 0, 48]
abbrev dktX4_tileAt_0 : List UInt8 := dkwX4_tileAt_0 ++ dktX4_tileAt_1
theorem dksX4_tileAt_0 : cX4_tileAt.data.toList.drop 0 = dktX4_tileAt_0 := by decide +kernel
theorem dksX4_tileAt_1 : cX4_tileAt.data.toList.drop 23 = dktX4_tileAt_1 := dk_seg dksX4_tileAt_0 23 rfl rfl
theorem dksX4_tileAt_2 : cX4_tileAt.data.toList.drop 47 = dktX4_tileAt_2 := dk_seg dksX4_tileAt_1 24 rfl rfl
theorem dX4_tileAt_0 : decode cX4_tileAt 0 = .ok (.aload_n 0, 1) := dk_42 (dk_at dksX4_tileAt_0 0 rfl rfl)
theorem dX4_tileAt_1 : decode cX4_tileAt 1 = .ok (.iconst 0, 1) := dk_3 (dk_at dksX4_tileAt_0 1 rfl rfl)
theorem dX4_tileAt_2 : decode cX4_tileAt 2 = .ok (.putfield 65, 3) := dk_181 0 65 (dk_at dksX4_tileAt_0 2 rfl rfl)
theorem dX4_tileAt_5 : decode cX4_tileAt 5 = .ok (.aload_n 0, 1) := dk_42 (dk_at dksX4_tileAt_0 5 rfl rfl)
theorem dX4_tileAt_6 : decode cX4_tileAt 6 = .ok (.iload_n 1, 1) := dk_27 (dk_at dksX4_tileAt_0 6 rfl rfl)
theorem dX4_tileAt_7 : decode cX4_tileAt 7 = .ok (.invokevirtual 388, 3) := dk_182 1 132 (dk_at dksX4_tileAt_0 7 rfl rfl)
theorem dX4_tileAt_10 : decode cX4_tileAt 10 = .ok (.ifCond .ne 9, 3) := dk_154 0 9 (dk_at dksX4_tileAt_0 10 rfl rfl)
theorem dX4_tileAt_13 : decode cX4_tileAt 13 = .ok (.aload_n 0, 1) := dk_42 (dk_at dksX4_tileAt_0 13 rfl rfl)
theorem dX4_tileAt_14 : decode cX4_tileAt 14 = .ok (.iconst 1, 1) := dk_4 (dk_at dksX4_tileAt_0 14 rfl rfl)
theorem dX4_tileAt_15 : decode cX4_tileAt 15 = .ok (.invokevirtual 254, 3) := dk_182 0 254 (dk_at dksX4_tileAt_0 15 rfl rfl)
theorem dX4_tileAt_18 : decode cX4_tileAt 18 = .ok (.ireturn, 1) := dk_172 (dk_at dksX4_tileAt_0 18 rfl rfl)
theorem dX4_tileAt_19 : decode cX4_tileAt 19 = .ok (.aload_n 0, 1) := dk_42 (dk_at dksX4_tileAt_0 19 rfl rfl)
theorem dX4_tileAt_20 : decode cX4_tileAt 20 = .ok (.getfield 48, 3) := dk_180 0 48 (dk_at dksX4_tileAt_0 20 rfl rfl)
theorem dX4_tileAt_23 : decode cX4_tileAt 23 = .ok (.getfield 280, 3) := dk_180 1 24 (dk_at dksX4_tileAt_1 0 rfl rfl)
theorem dX4_tileAt_26 : decode cX4_tileAt 26 = .ok (.iload_n 1, 1) := dk_27 (dk_at dksX4_tileAt_1 3 rfl rfl)
theorem dX4_tileAt_27 : decode cX4_tileAt 27 = .ok (.iaload, 1) := dk_46 (dk_at dksX4_tileAt_1 4 rfl rfl)
theorem dX4_tileAt_28 : decode cX4_tileAt 28 = .ok (.iconst (-1), 1) := dk_2 (dk_at dksX4_tileAt_1 5 rfl rfl)
theorem dX4_tileAt_29 : decode cX4_tileAt 29 = .ok (.if_icmp .ne 11, 3) := dk_160 0 11 (dk_at dksX4_tileAt_1 6 rfl rfl)
theorem dX4_tileAt_32 : decode cX4_tileAt 32 = .ok (.aload_n 0, 1) := dk_42 (dk_at dksX4_tileAt_1 9 rfl rfl)
theorem dX4_tileAt_33 : decode cX4_tileAt 33 = .ok (.iconst 2, 1) := dk_5 (dk_at dksX4_tileAt_1 10 rfl rfl)
theorem dX4_tileAt_34 : decode cX4_tileAt 34 = .ok (.invokevirtual 254, 3) := dk_182 0 254 (dk_at dksX4_tileAt_1 11 rfl rfl)
theorem dX4_tileAt_37 : decode cX4_tileAt 37 = .ok (.goto 12, 3) := dk_167 0 12 (dk_at dksX4_tileAt_1 14 rfl rfl)
theorem dX4_tileAt_40 : decode cX4_tileAt 40 = .ok (.aload_n 0, 1) := dk_42 (dk_at dksX4_tileAt_1 17 rfl rfl)
theorem dX4_tileAt_41 : decode cX4_tileAt 41 = .ok (.getfield 48, 3) := dk_180 0 48 (dk_at dksX4_tileAt_1 18 rfl rfl)
theorem dX4_tileAt_44 : decode cX4_tileAt 44 = .ok (.getfield 280, 3) := dk_180 1 24 (dk_at dksX4_tileAt_1 21 rfl rfl)
theorem dX4_tileAt_47 : decode cX4_tileAt 47 = .ok (.iload_n 1, 1) := dk_27 (dk_at dksX4_tileAt_2 0 rfl rfl)
theorem dX4_tileAt_48 : decode cX4_tileAt 48 = .ok (.iaload, 1) := dk_46 (dk_at dksX4_tileAt_2 1 rfl rfl)
theorem dX4_tileAt_49 : decode cX4_tileAt 49 = .ok (.ireturn, 1) := dk_172 (dk_at dksX4_tileAt_2 2 rfl rfl)
abbrev cX4_numberAt_2 : ByteArray := prog_45_method_84_code
def yX4_numberAt_2 : MethodName := ⟨RX4, "numberAt", "(II)I"⟩
def dkwX4_numberAt_2_2 : List UInt8 := [167, 0, 13, 42, 42, 180, 0, 48, 27, 28, 182, 1, 62, 172]
abbrev dktX4_numberAt_2_2 : List UInt8 := dkwX4_numberAt_2_2 ++ []
def dkwX4_numberAt_2_1 : List UInt8 := [182, 0, 254, 172, 42, 180, 0, 48, 180, 1, 24, 27, 46, 2, 160, 0, 11, 42, 5, 182, 0, 254]
abbrev dktX4_numberAt_2_1 : List UInt8 := dkwX4_numberAt_2_1 ++ dktX4_numberAt_2_2
def dkwX4_numberAt_2_0 : List UInt8 := [42, 3, 181, 0, 65, 42, 27, 182, 1, 132, 153, 0, 10, 28, 184, 1, 138, 154, 0, 9, 42, 4]
abbrev dktX4_numberAt_2_0 : List UInt8 := dkwX4_numberAt_2_0 ++ dktX4_numberAt_2_1
theorem dksX4_numberAt_2_0 : cX4_numberAt_2.data.toList.drop 0 = dktX4_numberAt_2_0 := by decide +kernel
theorem dksX4_numberAt_2_1 : cX4_numberAt_2.data.toList.drop 22 = dktX4_numberAt_2_1 := dk_seg dksX4_numberAt_2_0 22 rfl rfl
theorem dksX4_numberAt_2_2 : cX4_numberAt_2.data.toList.drop 44 = dktX4_numberAt_2_2 := dk_seg dksX4_numberAt_2_1 22 rfl rfl
theorem dX4_numberAt_2_0 : decode cX4_numberAt_2 0 = .ok (.aload_n 0, 1) := dk_42 (dk_at dksX4_numberAt_2_0 0 rfl rfl)
theorem dX4_numberAt_2_1 : decode cX4_numberAt_2 1 = .ok (.iconst 0, 1) := dk_3 (dk_at dksX4_numberAt_2_0 1 rfl rfl)
theorem dX4_numberAt_2_2 : decode cX4_numberAt_2 2 = .ok (.putfield 65, 3) := dk_181 0 65 (dk_at dksX4_numberAt_2_0 2 rfl rfl)
theorem dX4_numberAt_2_5 : decode cX4_numberAt_2 5 = .ok (.aload_n 0, 1) := dk_42 (dk_at dksX4_numberAt_2_0 5 rfl rfl)
theorem dX4_numberAt_2_6 : decode cX4_numberAt_2 6 = .ok (.iload_n 1, 1) := dk_27 (dk_at dksX4_numberAt_2_0 6 rfl rfl)
theorem dX4_numberAt_2_7 : decode cX4_numberAt_2 7 = .ok (.invokevirtual 388, 3) := dk_182 1 132 (dk_at dksX4_numberAt_2_0 7 rfl rfl)
theorem dX4_numberAt_2_10 : decode cX4_numberAt_2 10 = .ok (.ifCond .eq 10, 3) := dk_153 0 10 (dk_at dksX4_numberAt_2_0 10 rfl rfl)
theorem dX4_numberAt_2_13 : decode cX4_numberAt_2 13 = .ok (.iload_n 2, 1) := dk_28 (dk_at dksX4_numberAt_2_0 13 rfl rfl)
theorem dX4_numberAt_2_14 : decode cX4_numberAt_2 14 = .ok (.invokestatic 394, 3) := dk_184 1 138 (dk_at dksX4_numberAt_2_0 14 rfl rfl)
theorem dX4_numberAt_2_17 : decode cX4_numberAt_2 17 = .ok (.ifCond .ne 9, 3) := dk_154 0 9 (dk_at dksX4_numberAt_2_0 17 rfl rfl)
theorem dX4_numberAt_2_20 : decode cX4_numberAt_2 20 = .ok (.aload_n 0, 1) := dk_42 (dk_at dksX4_numberAt_2_0 20 rfl rfl)
theorem dX4_numberAt_2_21 : decode cX4_numberAt_2 21 = .ok (.iconst 1, 1) := dk_4 (dk_at dksX4_numberAt_2_0 21 rfl rfl)
theorem dX4_numberAt_2_22 : decode cX4_numberAt_2 22 = .ok (.invokevirtual 254, 3) := dk_182 0 254 (dk_at dksX4_numberAt_2_1 0 rfl rfl)
theorem dX4_numberAt_2_25 : decode cX4_numberAt_2 25 = .ok (.ireturn, 1) := dk_172 (dk_at dksX4_numberAt_2_1 3 rfl rfl)
theorem dX4_numberAt_2_26 : decode cX4_numberAt_2 26 = .ok (.aload_n 0, 1) := dk_42 (dk_at dksX4_numberAt_2_1 4 rfl rfl)
theorem dX4_numberAt_2_27 : decode cX4_numberAt_2 27 = .ok (.getfield 48, 3) := dk_180 0 48 (dk_at dksX4_numberAt_2_1 5 rfl rfl)
theorem dX4_numberAt_2_30 : decode cX4_numberAt_2 30 = .ok (.getfield 280, 3) := dk_180 1 24 (dk_at dksX4_numberAt_2_1 8 rfl rfl)
theorem dX4_numberAt_2_33 : decode cX4_numberAt_2 33 = .ok (.iload_n 1, 1) := dk_27 (dk_at dksX4_numberAt_2_1 11 rfl rfl)
theorem dX4_numberAt_2_34 : decode cX4_numberAt_2 34 = .ok (.iaload, 1) := dk_46 (dk_at dksX4_numberAt_2_1 12 rfl rfl)
theorem dX4_numberAt_2_35 : decode cX4_numberAt_2 35 = .ok (.iconst (-1), 1) := dk_2 (dk_at dksX4_numberAt_2_1 13 rfl rfl)
theorem dX4_numberAt_2_36 : decode cX4_numberAt_2 36 = .ok (.if_icmp .ne 11, 3) := dk_160 0 11 (dk_at dksX4_numberAt_2_1 14 rfl rfl)
theorem dX4_numberAt_2_39 : decode cX4_numberAt_2 39 = .ok (.aload_n 0, 1) := dk_42 (dk_at dksX4_numberAt_2_1 17 rfl rfl)
theorem dX4_numberAt_2_40 : decode cX4_numberAt_2 40 = .ok (.iconst 2, 1) := dk_5 (dk_at dksX4_numberAt_2_1 18 rfl rfl)
theorem dX4_numberAt_2_41 : decode cX4_numberAt_2 41 = .ok (.invokevirtual 254, 3) := dk_182 0 254 (dk_at dksX4_numberAt_2_1 19 rfl rfl)
theorem dX4_numberAt_2_44 : decode cX4_numberAt_2 44 = .ok (.goto 13, 3) := dk_167 0 13 (dk_at dksX4_numberAt_2_2 0 rfl rfl)
theorem dX4_numberAt_2_47 : decode cX4_numberAt_2 47 = .ok (.aload_n 0, 1) := dk_42 (dk_at dksX4_numberAt_2_2 3 rfl rfl)
theorem dX4_numberAt_2_48 : decode cX4_numberAt_2 48 = .ok (.aload_n 0, 1) := dk_42 (dk_at dksX4_numberAt_2_2 4 rfl rfl)
theorem dX4_numberAt_2_49 : decode cX4_numberAt_2 49 = .ok (.getfield 48, 3) := dk_180 0 48 (dk_at dksX4_numberAt_2_2 5 rfl rfl)
theorem dX4_numberAt_2_52 : decode cX4_numberAt_2 52 = .ok (.iload_n 1, 1) := dk_27 (dk_at dksX4_numberAt_2_2 8 rfl rfl)
theorem dX4_numberAt_2_53 : decode cX4_numberAt_2 53 = .ok (.iload_n 2, 1) := dk_28 (dk_at dksX4_numberAt_2_2 9 rfl rfl)
theorem dX4_numberAt_2_54 : decode cX4_numberAt_2 54 = .ok (.invokevirtual 318, 3) := dk_182 1 62 (dk_at dksX4_numberAt_2_2 10 rfl rfl)
theorem dX4_numberAt_2_57 : decode cX4_numberAt_2 57 = .ok (.ireturn, 1) := dk_172 (dk_at dksX4_numberAt_2_2 13 rfl rfl)
abbrev cX4_isEdge : ByteArray := prog_45_method_81_code
def yX4_isEdge : MethodName := ⟨RX4, "isEdge", "(I)Z"⟩
def dkwX4_isEdge_0 : List UInt8 := [26, 3, 8, 184, 0, 68, 172]
abbrev dktX4_isEdge_0 : List UInt8 := dkwX4_isEdge_0 ++ []
theorem dksX4_isEdge_0 : cX4_isEdge.data.toList.drop 0 = dktX4_isEdge_0 := by decide +kernel
theorem dX4_isEdge_0 : decode cX4_isEdge 0 = .ok (.iload_n 0, 1) := dk_26 (dk_at dksX4_isEdge_0 0 rfl rfl)
theorem dX4_isEdge_1 : decode cX4_isEdge 1 = .ok (.iconst 0, 1) := dk_3 (dk_at dksX4_isEdge_0 1 rfl rfl)
theorem dX4_isEdge_2 : decode cX4_isEdge 2 = .ok (.iconst 5, 1) := dk_8 (dk_at dksX4_isEdge_0 2 rfl rfl)
theorem dX4_isEdge_3 : decode cX4_isEdge 3 = .ok (.invokestatic 68, 3) := dk_184 0 68 (dk_at dksX4_isEdge_0 3 rfl rfl)
theorem dX4_isEdge_6 : decode cX4_isEdge 6 = .ok (.ireturn, 1) := dk_172 (dk_at dksX4_isEdge_0 6 rfl rfl)
abbrev cX4_matchesOf : ByteArray := prog_45_method_86_code
def yX4_matchesOf : MethodName := ⟨RX4, "matchesOf", "(I)I"⟩
def dkwX4_matchesOf_1 : List UInt8 := [182, 0, 254, 172]
abbrev dktX4_matchesOf_1 : List UInt8 := dkwX4_matchesOf_1 ++ []
def dkwX4_matchesOf_0 : List UInt8 := [42, 3, 181, 0, 65, 42, 27, 182, 1, 132, 153, 0, 11, 42, 27, 182, 1, 141, 167, 0, 8, 42, 4]
abbrev dktX4_matchesOf_0 : List UInt8 := dkwX4_matchesOf_0 ++ dktX4_matchesOf_1
theorem dksX4_matchesOf_0 : cX4_matchesOf.data.toList.drop 0 = dktX4_matchesOf_0 := by decide +kernel
theorem dksX4_matchesOf_1 : cX4_matchesOf.data.toList.drop 23 = dktX4_matchesOf_1 := dk_seg dksX4_matchesOf_0 23 rfl rfl
theorem dX4_matchesOf_0 : decode cX4_matchesOf 0 = .ok (.aload_n 0, 1) := dk_42 (dk_at dksX4_matchesOf_0 0 rfl rfl)
theorem dX4_matchesOf_1 : decode cX4_matchesOf 1 = .ok (.iconst 0, 1) := dk_3 (dk_at dksX4_matchesOf_0 1 rfl rfl)
theorem dX4_matchesOf_2 : decode cX4_matchesOf 2 = .ok (.putfield 65, 3) := dk_181 0 65 (dk_at dksX4_matchesOf_0 2 rfl rfl)
theorem dX4_matchesOf_5 : decode cX4_matchesOf 5 = .ok (.aload_n 0, 1) := dk_42 (dk_at dksX4_matchesOf_0 5 rfl rfl)
theorem dX4_matchesOf_6 : decode cX4_matchesOf 6 = .ok (.iload_n 1, 1) := dk_27 (dk_at dksX4_matchesOf_0 6 rfl rfl)
theorem dX4_matchesOf_7 : decode cX4_matchesOf 7 = .ok (.invokevirtual 388, 3) := dk_182 1 132 (dk_at dksX4_matchesOf_0 7 rfl rfl)
theorem dX4_matchesOf_10 : decode cX4_matchesOf 10 = .ok (.ifCond .eq 11, 3) := dk_153 0 11 (dk_at dksX4_matchesOf_0 10 rfl rfl)
theorem dX4_matchesOf_13 : decode cX4_matchesOf 13 = .ok (.aload_n 0, 1) := dk_42 (dk_at dksX4_matchesOf_0 13 rfl rfl)
theorem dX4_matchesOf_14 : decode cX4_matchesOf 14 = .ok (.iload_n 1, 1) := dk_27 (dk_at dksX4_matchesOf_0 14 rfl rfl)
theorem dX4_matchesOf_15 : decode cX4_matchesOf 15 = .ok (.invokevirtual 397, 3) := dk_182 1 141 (dk_at dksX4_matchesOf_0 15 rfl rfl)
theorem dX4_matchesOf_18 : decode cX4_matchesOf 18 = .ok (.goto 8, 3) := dk_167 0 8 (dk_at dksX4_matchesOf_0 18 rfl rfl)
theorem dX4_matchesOf_21 : decode cX4_matchesOf 21 = .ok (.aload_n 0, 1) := dk_42 (dk_at dksX4_matchesOf_0 21 rfl rfl)
theorem dX4_matchesOf_22 : decode cX4_matchesOf 22 = .ok (.iconst 1, 1) := dk_4 (dk_at dksX4_matchesOf_0 22 rfl rfl)
theorem dX4_matchesOf_23 : decode cX4_matchesOf 23 = .ok (.invokevirtual 254, 3) := dk_182 0 254 (dk_at dksX4_matchesOf_1 0 rfl rfl)
theorem dX4_matchesOf_26 : decode cX4_matchesOf 26 = .ok (.ireturn, 1) := dk_172 (dk_at dksX4_matchesOf_1 3 rfl rfl)
abbrev cX4_matchesAt : ByteArray := prog_45_method_85_code
def yX4_matchesAt : MethodName := ⟨RX4, "matchesAt", "(I)I"⟩
def dkwX4_matchesAt_1 : List UInt8 := [182, 1, 43, 172]
abbrev dktX4_matchesAt_1 : List UInt8 := dkwX4_matchesAt_1 ++ []
def dkwX4_matchesAt_0 : List UInt8 := [42, 180, 0, 48, 180, 1, 24, 27, 46, 2, 160, 0, 7, 3, 167, 0, 12, 42, 42, 180, 0, 48, 27]
abbrev dktX4_matchesAt_0 : List UInt8 := dkwX4_matchesAt_0 ++ dktX4_matchesAt_1
theorem dksX4_matchesAt_0 : cX4_matchesAt.data.toList.drop 0 = dktX4_matchesAt_0 := by decide +kernel
theorem dksX4_matchesAt_1 : cX4_matchesAt.data.toList.drop 23 = dktX4_matchesAt_1 := dk_seg dksX4_matchesAt_0 23 rfl rfl
theorem dX4_matchesAt_0 : decode cX4_matchesAt 0 = .ok (.aload_n 0, 1) := dk_42 (dk_at dksX4_matchesAt_0 0 rfl rfl)
theorem dX4_matchesAt_1 : decode cX4_matchesAt 1 = .ok (.getfield 48, 3) := dk_180 0 48 (dk_at dksX4_matchesAt_0 1 rfl rfl)
theorem dX4_matchesAt_4 : decode cX4_matchesAt 4 = .ok (.getfield 280, 3) := dk_180 1 24 (dk_at dksX4_matchesAt_0 4 rfl rfl)
theorem dX4_matchesAt_7 : decode cX4_matchesAt 7 = .ok (.iload_n 1, 1) := dk_27 (dk_at dksX4_matchesAt_0 7 rfl rfl)
theorem dX4_matchesAt_8 : decode cX4_matchesAt 8 = .ok (.iaload, 1) := dk_46 (dk_at dksX4_matchesAt_0 8 rfl rfl)
theorem dX4_matchesAt_9 : decode cX4_matchesAt 9 = .ok (.iconst (-1), 1) := dk_2 (dk_at dksX4_matchesAt_0 9 rfl rfl)
theorem dX4_matchesAt_10 : decode cX4_matchesAt 10 = .ok (.if_icmp .ne 7, 3) := dk_160 0 7 (dk_at dksX4_matchesAt_0 10 rfl rfl)
theorem dX4_matchesAt_13 : decode cX4_matchesAt 13 = .ok (.iconst 0, 1) := dk_3 (dk_at dksX4_matchesAt_0 13 rfl rfl)
theorem dX4_matchesAt_14 : decode cX4_matchesAt 14 = .ok (.goto 12, 3) := dk_167 0 12 (dk_at dksX4_matchesAt_0 14 rfl rfl)
theorem dX4_matchesAt_17 : decode cX4_matchesAt 17 = .ok (.aload_n 0, 1) := dk_42 (dk_at dksX4_matchesAt_0 17 rfl rfl)
theorem dX4_matchesAt_18 : decode cX4_matchesAt 18 = .ok (.aload_n 0, 1) := dk_42 (dk_at dksX4_matchesAt_0 18 rfl rfl)
theorem dX4_matchesAt_19 : decode cX4_matchesAt 19 = .ok (.getfield 48, 3) := dk_180 0 48 (dk_at dksX4_matchesAt_0 19 rfl rfl)
theorem dX4_matchesAt_22 : decode cX4_matchesAt 22 = .ok (.iload_n 1, 1) := dk_27 (dk_at dksX4_matchesAt_0 22 rfl rfl)
theorem dX4_matchesAt_23 : decode cX4_matchesAt 23 = .ok (.invokevirtual 299, 3) := dk_182 1 43 (dk_at dksX4_matchesAt_1 0 rfl rfl)
theorem dX4_matchesAt_26 : decode cX4_matchesAt 26 = .ok (.ireturn, 1) := dk_172 (dk_at dksX4_matchesAt_1 3 rfl rfl)
abbrev cX4_isRing : ByteArray := prog_45_method_87_code
def yX4_isRing : MethodName := ⟨RX4, "isRing", "(I)Z"⟩
def dkwX4_isRing_1 : List UInt8 := [167, 0, 8, 42, 4, 182, 1, 135, 172]
abbrev dktX4_isRing_1 : List UInt8 := dkwX4_isRing_1 ++ []
def dkwX4_isRing_0 : List UInt8 := [42, 3, 181, 0, 65, 42, 27, 182, 1, 132, 153, 0, 15, 42, 42, 180, 0, 48, 27, 182, 1, 58]
abbrev dktX4_isRing_0 : List UInt8 := dkwX4_isRing_0 ++ dktX4_isRing_1
theorem dksX4_isRing_0 : cX4_isRing.data.toList.drop 0 = dktX4_isRing_0 := by decide +kernel
theorem dksX4_isRing_1 : cX4_isRing.data.toList.drop 22 = dktX4_isRing_1 := dk_seg dksX4_isRing_0 22 rfl rfl
theorem dX4_isRing_0 : decode cX4_isRing 0 = .ok (.aload_n 0, 1) := dk_42 (dk_at dksX4_isRing_0 0 rfl rfl)
theorem dX4_isRing_1 : decode cX4_isRing 1 = .ok (.iconst 0, 1) := dk_3 (dk_at dksX4_isRing_0 1 rfl rfl)
theorem dX4_isRing_2 : decode cX4_isRing 2 = .ok (.putfield 65, 3) := dk_181 0 65 (dk_at dksX4_isRing_0 2 rfl rfl)
theorem dX4_isRing_5 : decode cX4_isRing 5 = .ok (.aload_n 0, 1) := dk_42 (dk_at dksX4_isRing_0 5 rfl rfl)
theorem dX4_isRing_6 : decode cX4_isRing 6 = .ok (.iload_n 1, 1) := dk_27 (dk_at dksX4_isRing_0 6 rfl rfl)
theorem dX4_isRing_7 : decode cX4_isRing 7 = .ok (.invokevirtual 388, 3) := dk_182 1 132 (dk_at dksX4_isRing_0 7 rfl rfl)
theorem dX4_isRing_10 : decode cX4_isRing 10 = .ok (.ifCond .eq 15, 3) := dk_153 0 15 (dk_at dksX4_isRing_0 10 rfl rfl)
theorem dX4_isRing_13 : decode cX4_isRing 13 = .ok (.aload_n 0, 1) := dk_42 (dk_at dksX4_isRing_0 13 rfl rfl)
theorem dX4_isRing_14 : decode cX4_isRing 14 = .ok (.aload_n 0, 1) := dk_42 (dk_at dksX4_isRing_0 14 rfl rfl)
theorem dX4_isRing_15 : decode cX4_isRing 15 = .ok (.getfield 48, 3) := dk_180 0 48 (dk_at dksX4_isRing_0 15 rfl rfl)
theorem dX4_isRing_18 : decode cX4_isRing 18 = .ok (.iload_n 1, 1) := dk_27 (dk_at dksX4_isRing_0 18 rfl rfl)
theorem dX4_isRing_19 : decode cX4_isRing 19 = .ok (.invokevirtual 314, 3) := dk_182 1 58 (dk_at dksX4_isRing_0 19 rfl rfl)
theorem dX4_isRing_22 : decode cX4_isRing 22 = .ok (.goto 8, 3) := dk_167 0 8 (dk_at dksX4_isRing_1 0 rfl rfl)
theorem dX4_isRing_25 : decode cX4_isRing 25 = .ok (.aload_n 0, 1) := dk_42 (dk_at dksX4_isRing_1 3 rfl rfl)
theorem dX4_isRing_26 : decode cX4_isRing 26 = .ok (.iconst 1, 1) := dk_4 (dk_at dksX4_isRing_1 4 rfl rfl)
theorem dX4_isRing_27 : decode cX4_isRing 27 = .ok (.invokevirtual 391, 3) := dk_182 1 135 (dk_at dksX4_isRing_1 5 rfl rfl)
theorem dX4_isRing_30 : decode cX4_isRing 30 = .ok (.ireturn, 1) := dk_172 (dk_at dksX4_isRing_1 8 rfl rfl)
abbrev cX4_isPlaced : ByteArray := prog_45_method_88_code
def yX4_isPlaced : MethodName := ⟨RX4, "isPlaced", "(I)Z"⟩
def dkwX4_isPlaced_1 : List UInt8 := [159, 0, 7, 4, 167, 0, 12, 3, 167, 0, 8, 42, 4, 182, 1, 135, 172]
abbrev dktX4_isPlaced_1 : List UInt8 := dkwX4_isPlaced_1 ++ []
def dkwX4_isPlaced_0 : List UInt8 := [42, 3, 181, 0, 65, 42, 27, 182, 1, 144, 153, 0, 24, 42, 180, 0, 48, 180, 1, 37, 27, 46, 2]
abbrev dktX4_isPlaced_0 : List UInt8 := dkwX4_isPlaced_0 ++ dktX4_isPlaced_1
theorem dksX4_isPlaced_0 : cX4_isPlaced.data.toList.drop 0 = dktX4_isPlaced_0 := by decide +kernel
theorem dksX4_isPlaced_1 : cX4_isPlaced.data.toList.drop 23 = dktX4_isPlaced_1 := dk_seg dksX4_isPlaced_0 23 rfl rfl
theorem dX4_isPlaced_0 : decode cX4_isPlaced 0 = .ok (.aload_n 0, 1) := dk_42 (dk_at dksX4_isPlaced_0 0 rfl rfl)
theorem dX4_isPlaced_1 : decode cX4_isPlaced 1 = .ok (.iconst 0, 1) := dk_3 (dk_at dksX4_isPlaced_0 1 rfl rfl)
theorem dX4_isPlaced_2 : decode cX4_isPlaced 2 = .ok (.putfield 65, 3) := dk_181 0 65 (dk_at dksX4_isPlaced_0 2 rfl rfl)
theorem dX4_isPlaced_5 : decode cX4_isPlaced 5 = .ok (.aload_n 0, 1) := dk_42 (dk_at dksX4_isPlaced_0 5 rfl rfl)
theorem dX4_isPlaced_6 : decode cX4_isPlaced 6 = .ok (.iload_n 1, 1) := dk_27 (dk_at dksX4_isPlaced_0 6 rfl rfl)
theorem dX4_isPlaced_7 : decode cX4_isPlaced 7 = .ok (.invokevirtual 400, 3) := dk_182 1 144 (dk_at dksX4_isPlaced_0 7 rfl rfl)
theorem dX4_isPlaced_10 : decode cX4_isPlaced 10 = .ok (.ifCond .eq 24, 3) := dk_153 0 24 (dk_at dksX4_isPlaced_0 10 rfl rfl)
theorem dX4_isPlaced_13 : decode cX4_isPlaced 13 = .ok (.aload_n 0, 1) := dk_42 (dk_at dksX4_isPlaced_0 13 rfl rfl)
theorem dX4_isPlaced_14 : decode cX4_isPlaced 14 = .ok (.getfield 48, 3) := dk_180 0 48 (dk_at dksX4_isPlaced_0 14 rfl rfl)
theorem dX4_isPlaced_17 : decode cX4_isPlaced 17 = .ok (.getfield 293, 3) := dk_180 1 37 (dk_at dksX4_isPlaced_0 17 rfl rfl)
theorem dX4_isPlaced_20 : decode cX4_isPlaced 20 = .ok (.iload_n 1, 1) := dk_27 (dk_at dksX4_isPlaced_0 20 rfl rfl)
theorem dX4_isPlaced_21 : decode cX4_isPlaced 21 = .ok (.iaload, 1) := dk_46 (dk_at dksX4_isPlaced_0 21 rfl rfl)
theorem dX4_isPlaced_22 : decode cX4_isPlaced 22 = .ok (.iconst (-1), 1) := dk_2 (dk_at dksX4_isPlaced_0 22 rfl rfl)
theorem dX4_isPlaced_23 : decode cX4_isPlaced 23 = .ok (.if_icmp .eq 7, 3) := dk_159 0 7 (dk_at dksX4_isPlaced_1 0 rfl rfl)
theorem dX4_isPlaced_26 : decode cX4_isPlaced 26 = .ok (.iconst 1, 1) := dk_4 (dk_at dksX4_isPlaced_1 3 rfl rfl)
theorem dX4_isPlaced_27 : decode cX4_isPlaced 27 = .ok (.goto 12, 3) := dk_167 0 12 (dk_at dksX4_isPlaced_1 4 rfl rfl)
theorem dX4_isPlaced_30 : decode cX4_isPlaced 30 = .ok (.iconst 0, 1) := dk_3 (dk_at dksX4_isPlaced_1 7 rfl rfl)
theorem dX4_isPlaced_31 : decode cX4_isPlaced 31 = .ok (.goto 8, 3) := dk_167 0 8 (dk_at dksX4_isPlaced_1 8 rfl rfl)
theorem dX4_isPlaced_34 : decode cX4_isPlaced 34 = .ok (.aload_n 0, 1) := dk_42 (dk_at dksX4_isPlaced_1 11 rfl rfl)
theorem dX4_isPlaced_35 : decode cX4_isPlaced 35 = .ok (.iconst 1, 1) := dk_4 (dk_at dksX4_isPlaced_1 12 rfl rfl)
theorem dX4_isPlaced_36 : decode cX4_isPlaced 36 = .ok (.invokevirtual 391, 3) := dk_182 1 135 (dk_at dksX4_isPlaced_1 13 rfl rfl)
theorem dX4_isPlaced_39 : decode cX4_isPlaced 39 = .ok (.ireturn, 1) := dk_172 (dk_at dksX4_isPlaced_1 16 rfl rfl)
abbrev cX4_isTile : ByteArray := prog_45_method_80_code
def yX4_isTile : MethodName := ⟨RX4, "isTile", "(I)Z"⟩
def dkwX4_isTile_0 : List UInt8 := [27, 3, 42, 180, 0, 35, 180, 0, 150, 4, 100, 184, 0, 68, 172]
abbrev dktX4_isTile_0 : List UInt8 := dkwX4_isTile_0 ++ []
theorem dksX4_isTile_0 : cX4_isTile.data.toList.drop 0 = dktX4_isTile_0 := by decide +kernel
theorem dX4_isTile_0 : decode cX4_isTile 0 = .ok (.iload_n 1, 1) := dk_27 (dk_at dksX4_isTile_0 0 rfl rfl)
theorem dX4_isTile_1 : decode cX4_isTile 1 = .ok (.iconst 0, 1) := dk_3 (dk_at dksX4_isTile_0 1 rfl rfl)
theorem dX4_isTile_2 : decode cX4_isTile 2 = .ok (.aload_n 0, 1) := dk_42 (dk_at dksX4_isTile_0 2 rfl rfl)
theorem dX4_isTile_3 : decode cX4_isTile 3 = .ok (.getfield 35, 3) := dk_180 0 35 (dk_at dksX4_isTile_0 3 rfl rfl)
theorem dX4_isTile_6 : decode cX4_isTile 6 = .ok (.getfield 150, 3) := dk_180 0 150 (dk_at dksX4_isTile_0 6 rfl rfl)
theorem dX4_isTile_9 : decode cX4_isTile 9 = .ok (.iconst 1, 1) := dk_4 (dk_at dksX4_isTile_0 9 rfl rfl)
theorem dX4_isTile_10 : decode cX4_isTile 10 = .ok (.isub, 1) := dk_100 (dk_at dksX4_isTile_0 10 rfl rfl)
theorem dX4_isTile_11 : decode cX4_isTile 11 = .ok (.invokestatic 68, 3) := dk_184 0 68 (dk_at dksX4_isTile_0 11 rfl rfl)
theorem dX4_isTile_14 : decode cX4_isTile 14 = .ok (.ireturn, 1) := dk_172 (dk_at dksX4_isTile_0 14 rfl rfl)
abbrev cX4_cellOf : ByteArray := prog_45_method_90_code
def yX4_cellOf : MethodName := ⟨RX4, "cellOf", "(I)I"⟩
def dkwX4_cellOf_0 : List UInt8 := [42, 27, 182, 1, 147, 153, 0, 15, 42, 180, 0, 48, 180, 1, 37, 27, 46, 167, 0, 4, 3, 172]
abbrev dktX4_cellOf_0 : List UInt8 := dkwX4_cellOf_0 ++ []
theorem dksX4_cellOf_0 : cX4_cellOf.data.toList.drop 0 = dktX4_cellOf_0 := by decide +kernel
theorem dX4_cellOf_0 : decode cX4_cellOf 0 = .ok (.aload_n 0, 1) := dk_42 (dk_at dksX4_cellOf_0 0 rfl rfl)
theorem dX4_cellOf_1 : decode cX4_cellOf 1 = .ok (.iload_n 1, 1) := dk_27 (dk_at dksX4_cellOf_0 1 rfl rfl)
theorem dX4_cellOf_2 : decode cX4_cellOf 2 = .ok (.invokevirtual 403, 3) := dk_182 1 147 (dk_at dksX4_cellOf_0 2 rfl rfl)
theorem dX4_cellOf_5 : decode cX4_cellOf 5 = .ok (.ifCond .eq 15, 3) := dk_153 0 15 (dk_at dksX4_cellOf_0 5 rfl rfl)
theorem dX4_cellOf_8 : decode cX4_cellOf 8 = .ok (.aload_n 0, 1) := dk_42 (dk_at dksX4_cellOf_0 8 rfl rfl)
theorem dX4_cellOf_9 : decode cX4_cellOf 9 = .ok (.getfield 48, 3) := dk_180 0 48 (dk_at dksX4_cellOf_0 9 rfl rfl)
theorem dX4_cellOf_12 : decode cX4_cellOf 12 = .ok (.getfield 293, 3) := dk_180 1 37 (dk_at dksX4_cellOf_0 12 rfl rfl)
theorem dX4_cellOf_15 : decode cX4_cellOf 15 = .ok (.iload_n 1, 1) := dk_27 (dk_at dksX4_cellOf_0 15 rfl rfl)
theorem dX4_cellOf_16 : decode cX4_cellOf 16 = .ok (.iaload, 1) := dk_46 (dk_at dksX4_cellOf_0 16 rfl rfl)
theorem dX4_cellOf_17 : decode cX4_cellOf 17 = .ok (.goto 4, 3) := dk_167 0 4 (dk_at dksX4_cellOf_0 17 rfl rfl)
theorem dX4_cellOf_20 : decode cX4_cellOf 20 = .ok (.iconst 0, 1) := dk_3 (dk_at dksX4_cellOf_0 20 rfl rfl)
theorem dX4_cellOf_21 : decode cX4_cellOf 21 = .ok (.ireturn, 1) := dk_172 (dk_at dksX4_cellOf_0 21 rfl rfl)
abbrev cX4_lies : ByteArray := prog_45_method_89_code
def yX4_lies : MethodName := ⟨RX4, "lies", "(I)Z"⟩
def dkwX4_lies_1 : List UInt8 := [160, 0, 7, 5, 167, 0, 4, 3, 181, 0, 65, 42, 180, 0, 65, 154, 0, 7, 4, 167, 0, 4, 3, 172]
abbrev dktX4_lies_1 : List UInt8 := dkwX4_lies_1 ++ []
def dkwX4_lies_0 : List UInt8 := [42, 42, 27, 182, 1, 144, 154, 0, 7, 4, 167, 0, 21, 42, 180, 0, 48, 180, 1, 37, 27, 46, 2]
abbrev dktX4_lies_0 : List UInt8 := dkwX4_lies_0 ++ dktX4_lies_1
theorem dksX4_lies_0 : cX4_lies.data.toList.drop 0 = dktX4_lies_0 := by decide +kernel
theorem dksX4_lies_1 : cX4_lies.data.toList.drop 23 = dktX4_lies_1 := dk_seg dksX4_lies_0 23 rfl rfl
theorem dX4_lies_0 : decode cX4_lies 0 = .ok (.aload_n 0, 1) := dk_42 (dk_at dksX4_lies_0 0 rfl rfl)
theorem dX4_lies_1 : decode cX4_lies 1 = .ok (.aload_n 0, 1) := dk_42 (dk_at dksX4_lies_0 1 rfl rfl)
theorem dX4_lies_2 : decode cX4_lies 2 = .ok (.iload_n 1, 1) := dk_27 (dk_at dksX4_lies_0 2 rfl rfl)
theorem dX4_lies_3 : decode cX4_lies 3 = .ok (.invokevirtual 400, 3) := dk_182 1 144 (dk_at dksX4_lies_0 3 rfl rfl)
theorem dX4_lies_6 : decode cX4_lies 6 = .ok (.ifCond .ne 7, 3) := dk_154 0 7 (dk_at dksX4_lies_0 6 rfl rfl)
theorem dX4_lies_9 : decode cX4_lies 9 = .ok (.iconst 1, 1) := dk_4 (dk_at dksX4_lies_0 9 rfl rfl)
theorem dX4_lies_10 : decode cX4_lies 10 = .ok (.goto 21, 3) := dk_167 0 21 (dk_at dksX4_lies_0 10 rfl rfl)
theorem dX4_lies_13 : decode cX4_lies 13 = .ok (.aload_n 0, 1) := dk_42 (dk_at dksX4_lies_0 13 rfl rfl)
theorem dX4_lies_14 : decode cX4_lies 14 = .ok (.getfield 48, 3) := dk_180 0 48 (dk_at dksX4_lies_0 14 rfl rfl)
theorem dX4_lies_17 : decode cX4_lies 17 = .ok (.getfield 293, 3) := dk_180 1 37 (dk_at dksX4_lies_0 17 rfl rfl)
theorem dX4_lies_20 : decode cX4_lies 20 = .ok (.iload_n 1, 1) := dk_27 (dk_at dksX4_lies_0 20 rfl rfl)
theorem dX4_lies_21 : decode cX4_lies 21 = .ok (.iaload, 1) := dk_46 (dk_at dksX4_lies_0 21 rfl rfl)
theorem dX4_lies_22 : decode cX4_lies 22 = .ok (.iconst (-1), 1) := dk_2 (dk_at dksX4_lies_0 22 rfl rfl)
theorem dX4_lies_23 : decode cX4_lies 23 = .ok (.if_icmp .ne 7, 3) := dk_160 0 7 (dk_at dksX4_lies_1 0 rfl rfl)
theorem dX4_lies_26 : decode cX4_lies 26 = .ok (.iconst 2, 1) := dk_5 (dk_at dksX4_lies_1 3 rfl rfl)
theorem dX4_lies_27 : decode cX4_lies 27 = .ok (.goto 4, 3) := dk_167 0 4 (dk_at dksX4_lies_1 4 rfl rfl)
theorem dX4_lies_30 : decode cX4_lies 30 = .ok (.iconst 0, 1) := dk_3 (dk_at dksX4_lies_1 7 rfl rfl)
theorem dX4_lies_31 : decode cX4_lies 31 = .ok (.putfield 65, 3) := dk_181 0 65 (dk_at dksX4_lies_1 8 rfl rfl)
theorem dX4_lies_34 : decode cX4_lies 34 = .ok (.aload_n 0, 1) := dk_42 (dk_at dksX4_lies_1 11 rfl rfl)
theorem dX4_lies_35 : decode cX4_lies 35 = .ok (.getfield 65, 3) := dk_180 0 65 (dk_at dksX4_lies_1 12 rfl rfl)
theorem dX4_lies_38 : decode cX4_lies 38 = .ok (.ifCond .ne 7, 3) := dk_154 0 7 (dk_at dksX4_lies_1 15 rfl rfl)
theorem dX4_lies_41 : decode cX4_lies 41 = .ok (.iconst 1, 1) := dk_4 (dk_at dksX4_lies_1 18 rfl rfl)
theorem dX4_lies_42 : decode cX4_lies 42 = .ok (.goto 4, 3) := dk_167 0 4 (dk_at dksX4_lies_1 19 rfl rfl)
theorem dX4_lies_45 : decode cX4_lies 45 = .ok (.iconst 0, 1) := dk_3 (dk_at dksX4_lies_1 22 rfl rfl)
theorem dX4_lies_46 : decode cX4_lies 46 = .ok (.ireturn, 1) := dk_172 (dk_at dksX4_lies_1 23 rfl rfl)
abbrev cX4_turnOf : ByteArray := prog_45_method_91_code
def yX4_turnOf : MethodName := ⟨RX4, "turnOf", "(I)I"⟩
def dkwX4_turnOf_0 : List UInt8 := [42, 27, 182, 1, 147, 153, 0, 15, 42, 180, 0, 48, 180, 1, 27, 27, 46, 167, 0, 4, 3, 172]
abbrev dktX4_turnOf_0 : List UInt8 := dkwX4_turnOf_0 ++ []
theorem dksX4_turnOf_0 : cX4_turnOf.data.toList.drop 0 = dktX4_turnOf_0 := by decide +kernel
theorem dX4_turnOf_0 : decode cX4_turnOf 0 = .ok (.aload_n 0, 1) := dk_42 (dk_at dksX4_turnOf_0 0 rfl rfl)
theorem dX4_turnOf_1 : decode cX4_turnOf 1 = .ok (.iload_n 1, 1) := dk_27 (dk_at dksX4_turnOf_0 1 rfl rfl)
theorem dX4_turnOf_2 : decode cX4_turnOf 2 = .ok (.invokevirtual 403, 3) := dk_182 1 147 (dk_at dksX4_turnOf_0 2 rfl rfl)
theorem dX4_turnOf_5 : decode cX4_turnOf 5 = .ok (.ifCond .eq 15, 3) := dk_153 0 15 (dk_at dksX4_turnOf_0 5 rfl rfl)
theorem dX4_turnOf_8 : decode cX4_turnOf 8 = .ok (.aload_n 0, 1) := dk_42 (dk_at dksX4_turnOf_0 8 rfl rfl)
theorem dX4_turnOf_9 : decode cX4_turnOf 9 = .ok (.getfield 48, 3) := dk_180 0 48 (dk_at dksX4_turnOf_0 9 rfl rfl)
theorem dX4_turnOf_12 : decode cX4_turnOf 12 = .ok (.getfield 283, 3) := dk_180 1 27 (dk_at dksX4_turnOf_0 12 rfl rfl)
theorem dX4_turnOf_15 : decode cX4_turnOf 15 = .ok (.iload_n 1, 1) := dk_27 (dk_at dksX4_turnOf_0 15 rfl rfl)
theorem dX4_turnOf_16 : decode cX4_turnOf 16 = .ok (.iaload, 1) := dk_46 (dk_at dksX4_turnOf_0 16 rfl rfl)
theorem dX4_turnOf_17 : decode cX4_turnOf 17 = .ok (.goto 4, 3) := dk_167 0 4 (dk_at dksX4_turnOf_0 17 rfl rfl)
theorem dX4_turnOf_20 : decode cX4_turnOf 20 = .ok (.iconst 0, 1) := dk_3 (dk_at dksX4_turnOf_0 20 rfl rfl)
theorem dX4_turnOf_21 : decode cX4_turnOf 21 = .ok (.ireturn, 1) := dk_172 (dk_at dksX4_turnOf_0 21 rfl rfl)
abbrev cX4_fits : ByteArray := prog_45_method_93_code
def yX4_fits : MethodName := ⟨RX4, "fits", "(III)Z"⟩
def dkwX4_fits_1 : List UInt8 := [4, 167, 0, 4, 3, 172]
abbrev dktX4_fits_1 : List UInt8 := dkwX4_fits_1 ++ []
def dkwX4_fits_0 : List UInt8 := [42, 27, 28, 29, 182, 1, 150, 153, 0, 21, 42, 42, 180, 0, 48, 27, 28, 29, 182, 1, 54, 153, 0, 7]
abbrev dktX4_fits_0 : List UInt8 := dkwX4_fits_0 ++ dktX4_fits_1
theorem dksX4_fits_0 : cX4_fits.data.toList.drop 0 = dktX4_fits_0 := by decide +kernel
theorem dksX4_fits_1 : cX4_fits.data.toList.drop 24 = dktX4_fits_1 := dk_seg dksX4_fits_0 24 rfl rfl
theorem dX4_fits_0 : decode cX4_fits 0 = .ok (.aload_n 0, 1) := dk_42 (dk_at dksX4_fits_0 0 rfl rfl)
theorem dX4_fits_1 : decode cX4_fits 1 = .ok (.iload_n 1, 1) := dk_27 (dk_at dksX4_fits_0 1 rfl rfl)
theorem dX4_fits_2 : decode cX4_fits 2 = .ok (.iload_n 2, 1) := dk_28 (dk_at dksX4_fits_0 2 rfl rfl)
theorem dX4_fits_3 : decode cX4_fits 3 = .ok (.iload_n 3, 1) := dk_29 (dk_at dksX4_fits_0 3 rfl rfl)
theorem dX4_fits_4 : decode cX4_fits 4 = .ok (.invokevirtual 406, 3) := dk_182 1 150 (dk_at dksX4_fits_0 4 rfl rfl)
theorem dX4_fits_7 : decode cX4_fits 7 = .ok (.ifCond .eq 21, 3) := dk_153 0 21 (dk_at dksX4_fits_0 7 rfl rfl)
theorem dX4_fits_10 : decode cX4_fits 10 = .ok (.aload_n 0, 1) := dk_42 (dk_at dksX4_fits_0 10 rfl rfl)
theorem dX4_fits_11 : decode cX4_fits 11 = .ok (.aload_n 0, 1) := dk_42 (dk_at dksX4_fits_0 11 rfl rfl)
theorem dX4_fits_12 : decode cX4_fits 12 = .ok (.getfield 48, 3) := dk_180 0 48 (dk_at dksX4_fits_0 12 rfl rfl)
theorem dX4_fits_15 : decode cX4_fits 15 = .ok (.iload_n 1, 1) := dk_27 (dk_at dksX4_fits_0 15 rfl rfl)
theorem dX4_fits_16 : decode cX4_fits 16 = .ok (.iload_n 2, 1) := dk_28 (dk_at dksX4_fits_0 16 rfl rfl)
theorem dX4_fits_17 : decode cX4_fits 17 = .ok (.iload_n 3, 1) := dk_29 (dk_at dksX4_fits_0 17 rfl rfl)
theorem dX4_fits_18 : decode cX4_fits 18 = .ok (.invokevirtual 310, 3) := dk_182 1 54 (dk_at dksX4_fits_0 18 rfl rfl)
theorem dX4_fits_21 : decode cX4_fits 21 = .ok (.ifCond .eq 7, 3) := dk_153 0 7 (dk_at dksX4_fits_0 21 rfl rfl)
theorem dX4_fits_24 : decode cX4_fits 24 = .ok (.iconst 1, 1) := dk_4 (dk_at dksX4_fits_1 0 rfl rfl)
theorem dX4_fits_25 : decode cX4_fits 25 = .ok (.goto 4, 3) := dk_167 0 4 (dk_at dksX4_fits_1 1 rfl rfl)
theorem dX4_fits_28 : decode cX4_fits 28 = .ok (.iconst 0, 1) := dk_3 (dk_at dksX4_fits_1 4 rfl rfl)
theorem dX4_fits_29 : decode cX4_fits 29 = .ok (.ireturn, 1) := dk_172 (dk_at dksX4_fits_1 5 rfl rfl)
abbrev cX4_isAsked : ByteArray := prog_45_method_92_code
def yX4_isAsked : MethodName := ⟨RX4, "isAsked", "(III)Z"⟩
def dkwX4_isAsked_1 : List UInt8 := [167, 0, 4, 3, 54, 4, 42, 21, 4, 153, 0, 7, 3, 167, 0, 4, 4, 181, 0, 65, 21, 4, 172]
abbrev dktX4_isAsked_1 : List UInt8 := dkwX4_isAsked_1 ++ []
def dkwX4_isAsked_0 : List UInt8 := [42, 27, 182, 1, 144, 153, 0, 22, 42, 28, 182, 1, 132, 153, 0, 14, 29, 184, 1, 138, 153, 0, 7, 4]
abbrev dktX4_isAsked_0 : List UInt8 := dkwX4_isAsked_0 ++ dktX4_isAsked_1
theorem dksX4_isAsked_0 : cX4_isAsked.data.toList.drop 0 = dktX4_isAsked_0 := by decide +kernel
theorem dksX4_isAsked_1 : cX4_isAsked.data.toList.drop 24 = dktX4_isAsked_1 := dk_seg dksX4_isAsked_0 24 rfl rfl
theorem dX4_isAsked_0 : decode cX4_isAsked 0 = .ok (.aload_n 0, 1) := dk_42 (dk_at dksX4_isAsked_0 0 rfl rfl)
theorem dX4_isAsked_1 : decode cX4_isAsked 1 = .ok (.iload_n 1, 1) := dk_27 (dk_at dksX4_isAsked_0 1 rfl rfl)
theorem dX4_isAsked_2 : decode cX4_isAsked 2 = .ok (.invokevirtual 400, 3) := dk_182 1 144 (dk_at dksX4_isAsked_0 2 rfl rfl)
theorem dX4_isAsked_5 : decode cX4_isAsked 5 = .ok (.ifCond .eq 22, 3) := dk_153 0 22 (dk_at dksX4_isAsked_0 5 rfl rfl)
theorem dX4_isAsked_8 : decode cX4_isAsked 8 = .ok (.aload_n 0, 1) := dk_42 (dk_at dksX4_isAsked_0 8 rfl rfl)
theorem dX4_isAsked_9 : decode cX4_isAsked 9 = .ok (.iload_n 2, 1) := dk_28 (dk_at dksX4_isAsked_0 9 rfl rfl)
theorem dX4_isAsked_10 : decode cX4_isAsked 10 = .ok (.invokevirtual 388, 3) := dk_182 1 132 (dk_at dksX4_isAsked_0 10 rfl rfl)
theorem dX4_isAsked_13 : decode cX4_isAsked 13 = .ok (.ifCond .eq 14, 3) := dk_153 0 14 (dk_at dksX4_isAsked_0 13 rfl rfl)
theorem dX4_isAsked_16 : decode cX4_isAsked 16 = .ok (.iload_n 3, 1) := dk_29 (dk_at dksX4_isAsked_0 16 rfl rfl)
theorem dX4_isAsked_17 : decode cX4_isAsked 17 = .ok (.invokestatic 394, 3) := dk_184 1 138 (dk_at dksX4_isAsked_0 17 rfl rfl)
theorem dX4_isAsked_20 : decode cX4_isAsked 20 = .ok (.ifCond .eq 7, 3) := dk_153 0 7 (dk_at dksX4_isAsked_0 20 rfl rfl)
theorem dX4_isAsked_23 : decode cX4_isAsked 23 = .ok (.iconst 1, 1) := dk_4 (dk_at dksX4_isAsked_0 23 rfl rfl)
theorem dX4_isAsked_24 : decode cX4_isAsked 24 = .ok (.goto 4, 3) := dk_167 0 4 (dk_at dksX4_isAsked_1 0 rfl rfl)
theorem dX4_isAsked_27 : decode cX4_isAsked 27 = .ok (.iconst 0, 1) := dk_3 (dk_at dksX4_isAsked_1 3 rfl rfl)
theorem dX4_isAsked_28 : decode cX4_isAsked 28 = .ok (.istore 4, 2) := dk_54 4 (dk_at dksX4_isAsked_1 4 rfl rfl)
theorem dX4_isAsked_30 : decode cX4_isAsked 30 = .ok (.aload_n 0, 1) := dk_42 (dk_at dksX4_isAsked_1 6 rfl rfl)
theorem dX4_isAsked_31 : decode cX4_isAsked 31 = .ok (.iload 4, 2) := dk_21 4 (dk_at dksX4_isAsked_1 7 rfl rfl)
theorem dX4_isAsked_33 : decode cX4_isAsked 33 = .ok (.ifCond .eq 7, 3) := dk_153 0 7 (dk_at dksX4_isAsked_1 9 rfl rfl)
theorem dX4_isAsked_36 : decode cX4_isAsked 36 = .ok (.iconst 0, 1) := dk_3 (dk_at dksX4_isAsked_1 12 rfl rfl)
theorem dX4_isAsked_37 : decode cX4_isAsked 37 = .ok (.goto 4, 3) := dk_167 0 4 (dk_at dksX4_isAsked_1 13 rfl rfl)
theorem dX4_isAsked_40 : decode cX4_isAsked 40 = .ok (.iconst 1, 1) := dk_4 (dk_at dksX4_isAsked_1 16 rfl rfl)
theorem dX4_isAsked_41 : decode cX4_isAsked 41 = .ok (.putfield 65, 3) := dk_181 0 65 (dk_at dksX4_isAsked_1 17 rfl rfl)
theorem dX4_isAsked_44 : decode cX4_isAsked 44 = .ok (.iload 4, 2) := dk_21 4 (dk_at dksX4_isAsked_1 20 rfl rfl)
theorem dX4_isAsked_46 : decode cX4_isAsked 46 = .ok (.ireturn, 1) := dk_172 (dk_at dksX4_isAsked_1 22 rfl rfl)
abbrev cX4_fits_2 : ByteArray := prog_45_method_51_code
def yX4_fits_2 : MethodName := ⟨RX4, "fits", "(LRingDominoModel$State;III)Z"⟩
def dkwX4_fits_2_2 : List UInt8 := [182, 1, 47, 2, 160, 0, 7, 4, 167, 0, 4, 3, 172]
abbrev dktX4_fits_2_2 : List UInt8 := dkwX4_fits_2_2 ++ []
def dkwX4_fits_2_1 : List UInt8 := [180, 1, 40, 154, 0, 5, 4, 172, 42, 43, 29, 182, 1, 43, 158, 0, 20, 42, 43, 28, 29, 21, 4]
abbrev dktX4_fits_2_1 : List UInt8 := dkwX4_fits_2_1 ++ dktX4_fits_2_2
def dkwX4_fits_2_0 : List UInt8 := [43, 180, 1, 37, 28, 46, 2, 160, 0, 13, 43, 180, 1, 24, 29, 46, 2, 159, 0, 5, 3, 172, 43]
abbrev dktX4_fits_2_0 : List UInt8 := dkwX4_fits_2_0 ++ dktX4_fits_2_1
theorem dksX4_fits_2_0 : cX4_fits_2.data.toList.drop 0 = dktX4_fits_2_0 := by decide +kernel
theorem dksX4_fits_2_1 : cX4_fits_2.data.toList.drop 23 = dktX4_fits_2_1 := dk_seg dksX4_fits_2_0 23 rfl rfl
theorem dksX4_fits_2_2 : cX4_fits_2.data.toList.drop 46 = dktX4_fits_2_2 := dk_seg dksX4_fits_2_1 23 rfl rfl
theorem dX4_fits_2_0 : decode cX4_fits_2 0 = .ok (.aload_n 1, 1) := dk_43 (dk_at dksX4_fits_2_0 0 rfl rfl)
theorem dX4_fits_2_1 : decode cX4_fits_2 1 = .ok (.getfield 293, 3) := dk_180 1 37 (dk_at dksX4_fits_2_0 1 rfl rfl)
theorem dX4_fits_2_4 : decode cX4_fits_2 4 = .ok (.iload_n 2, 1) := dk_28 (dk_at dksX4_fits_2_0 4 rfl rfl)
theorem dX4_fits_2_5 : decode cX4_fits_2 5 = .ok (.iaload, 1) := dk_46 (dk_at dksX4_fits_2_0 5 rfl rfl)
theorem dX4_fits_2_6 : decode cX4_fits_2 6 = .ok (.iconst (-1), 1) := dk_2 (dk_at dksX4_fits_2_0 6 rfl rfl)
theorem dX4_fits_2_7 : decode cX4_fits_2 7 = .ok (.if_icmp .ne 13, 3) := dk_160 0 13 (dk_at dksX4_fits_2_0 7 rfl rfl)
theorem dX4_fits_2_10 : decode cX4_fits_2 10 = .ok (.aload_n 1, 1) := dk_43 (dk_at dksX4_fits_2_0 10 rfl rfl)
theorem dX4_fits_2_11 : decode cX4_fits_2 11 = .ok (.getfield 280, 3) := dk_180 1 24 (dk_at dksX4_fits_2_0 11 rfl rfl)
theorem dX4_fits_2_14 : decode cX4_fits_2 14 = .ok (.iload_n 3, 1) := dk_29 (dk_at dksX4_fits_2_0 14 rfl rfl)
theorem dX4_fits_2_15 : decode cX4_fits_2 15 = .ok (.iaload, 1) := dk_46 (dk_at dksX4_fits_2_0 15 rfl rfl)
theorem dX4_fits_2_16 : decode cX4_fits_2 16 = .ok (.iconst (-1), 1) := dk_2 (dk_at dksX4_fits_2_0 16 rfl rfl)
theorem dX4_fits_2_17 : decode cX4_fits_2 17 = .ok (.if_icmp .eq 5, 3) := dk_159 0 5 (dk_at dksX4_fits_2_0 17 rfl rfl)
theorem dX4_fits_2_20 : decode cX4_fits_2 20 = .ok (.iconst 0, 1) := dk_3 (dk_at dksX4_fits_2_0 20 rfl rfl)
theorem dX4_fits_2_21 : decode cX4_fits_2 21 = .ok (.ireturn, 1) := dk_172 (dk_at dksX4_fits_2_0 21 rfl rfl)
theorem dX4_fits_2_22 : decode cX4_fits_2 22 = .ok (.aload_n 1, 1) := dk_43 (dk_at dksX4_fits_2_0 22 rfl rfl)
theorem dX4_fits_2_23 : decode cX4_fits_2 23 = .ok (.getfield 296, 3) := dk_180 1 40 (dk_at dksX4_fits_2_1 0 rfl rfl)
theorem dX4_fits_2_26 : decode cX4_fits_2 26 = .ok (.ifCond .ne 5, 3) := dk_154 0 5 (dk_at dksX4_fits_2_1 3 rfl rfl)
theorem dX4_fits_2_29 : decode cX4_fits_2 29 = .ok (.iconst 1, 1) := dk_4 (dk_at dksX4_fits_2_1 6 rfl rfl)
theorem dX4_fits_2_30 : decode cX4_fits_2 30 = .ok (.ireturn, 1) := dk_172 (dk_at dksX4_fits_2_1 7 rfl rfl)
theorem dX4_fits_2_31 : decode cX4_fits_2 31 = .ok (.aload_n 0, 1) := dk_42 (dk_at dksX4_fits_2_1 8 rfl rfl)
theorem dX4_fits_2_32 : decode cX4_fits_2 32 = .ok (.aload_n 1, 1) := dk_43 (dk_at dksX4_fits_2_1 9 rfl rfl)
theorem dX4_fits_2_33 : decode cX4_fits_2 33 = .ok (.iload_n 3, 1) := dk_29 (dk_at dksX4_fits_2_1 10 rfl rfl)
theorem dX4_fits_2_34 : decode cX4_fits_2 34 = .ok (.invokevirtual 299, 3) := dk_182 1 43 (dk_at dksX4_fits_2_1 11 rfl rfl)
theorem dX4_fits_2_37 : decode cX4_fits_2 37 = .ok (.ifCond .le 20, 3) := dk_158 0 20 (dk_at dksX4_fits_2_1 14 rfl rfl)
theorem dX4_fits_2_40 : decode cX4_fits_2 40 = .ok (.aload_n 0, 1) := dk_42 (dk_at dksX4_fits_2_1 17 rfl rfl)
theorem dX4_fits_2_41 : decode cX4_fits_2 41 = .ok (.aload_n 1, 1) := dk_43 (dk_at dksX4_fits_2_1 18 rfl rfl)
theorem dX4_fits_2_42 : decode cX4_fits_2 42 = .ok (.iload_n 2, 1) := dk_28 (dk_at dksX4_fits_2_1 19 rfl rfl)
theorem dX4_fits_2_43 : decode cX4_fits_2 43 = .ok (.iload_n 3, 1) := dk_29 (dk_at dksX4_fits_2_1 20 rfl rfl)
theorem dX4_fits_2_44 : decode cX4_fits_2 44 = .ok (.iload 4, 2) := dk_21 4 (dk_at dksX4_fits_2_1 21 rfl rfl)
theorem dX4_fits_2_46 : decode cX4_fits_2 46 = .ok (.invokevirtual 303, 3) := dk_182 1 47 (dk_at dksX4_fits_2_2 0 rfl rfl)
theorem dX4_fits_2_49 : decode cX4_fits_2 49 = .ok (.iconst (-1), 1) := dk_2 (dk_at dksX4_fits_2_2 3 rfl rfl)
theorem dX4_fits_2_50 : decode cX4_fits_2 50 = .ok (.if_icmp .ne 7, 3) := dk_160 0 7 (dk_at dksX4_fits_2_2 4 rfl rfl)
theorem dX4_fits_2_53 : decode cX4_fits_2 53 = .ok (.iconst 1, 1) := dk_4 (dk_at dksX4_fits_2_2 7 rfl rfl)
theorem dX4_fits_2_54 : decode cX4_fits_2 54 = .ok (.goto 4, 3) := dk_167 0 4 (dk_at dksX4_fits_2_2 8 rfl rfl)
theorem dX4_fits_2_57 : decode cX4_fits_2 57 = .ok (.iconst 0, 1) := dk_3 (dk_at dksX4_fits_2_2 11 rfl rfl)
theorem dX4_fits_2_58 : decode cX4_fits_2 58 = .ok (.ireturn, 1) := dk_172 (dk_at dksX4_fits_2_2 12 rfl rfl)
abbrev cX4_against : ByteArray := prog_45_method_49_code
def yX4_against : MethodName := ⟨RX4, "against", "(LRingDominoModel$State;III)I"⟩
def dkwX4_against_2 : List UInt8 := [28, 21, 4, 21, 5, 182, 1, 30, 159, 0, 6, 21, 5, 172, 132, 5, 1, 167, 255, 195, 2, 172]
abbrev dktX4_against_2 : List UInt8 := dkwX4_against_2 ++ []
def dkwX4_against_1 : List UInt8 := [159, 0, 38, 42, 21, 6, 43, 180, 1, 27, 21, 6, 46, 21, 5, 6, 96, 16, 6, 112, 182, 1, 30, 42]
abbrev dktX4_against_1 : List UInt8 := dkwX4_against_1 ++ dktX4_against_2
def dkwX4_against_0 : List UInt8 := [3, 54, 5, 21, 5, 16, 6, 162, 0, 60, 42, 43, 29, 21, 5, 182, 1, 33, 54, 6, 21, 6, 2]
abbrev dktX4_against_0 : List UInt8 := dkwX4_against_0 ++ dktX4_against_1
theorem dksX4_against_0 : cX4_against.data.toList.drop 0 = dktX4_against_0 := by decide +kernel
theorem dksX4_against_1 : cX4_against.data.toList.drop 23 = dktX4_against_1 := dk_seg dksX4_against_0 23 rfl rfl
theorem dksX4_against_2 : cX4_against.data.toList.drop 47 = dktX4_against_2 := dk_seg dksX4_against_1 24 rfl rfl
theorem dX4_against_0 : decode cX4_against 0 = .ok (.iconst 0, 1) := dk_3 (dk_at dksX4_against_0 0 rfl rfl)
theorem dX4_against_1 : decode cX4_against 1 = .ok (.istore 5, 2) := dk_54 5 (dk_at dksX4_against_0 1 rfl rfl)
theorem dX4_against_3 : decode cX4_against 3 = .ok (.iload 5, 2) := dk_21 5 (dk_at dksX4_against_0 3 rfl rfl)
theorem dX4_against_5 : decode cX4_against 5 = .ok (.bipush 6, 2) := dk_16 6 (dk_at dksX4_against_0 5 rfl rfl)
theorem dX4_against_7 : decode cX4_against 7 = .ok (.if_icmp .ge 60, 3) := dk_162 0 60 (dk_at dksX4_against_0 7 rfl rfl)
theorem dX4_against_10 : decode cX4_against 10 = .ok (.aload_n 0, 1) := dk_42 (dk_at dksX4_against_0 10 rfl rfl)
theorem dX4_against_11 : decode cX4_against 11 = .ok (.aload_n 1, 1) := dk_43 (dk_at dksX4_against_0 11 rfl rfl)
theorem dX4_against_12 : decode cX4_against 12 = .ok (.iload_n 3, 1) := dk_29 (dk_at dksX4_against_0 12 rfl rfl)
theorem dX4_against_13 : decode cX4_against 13 = .ok (.iload 5, 2) := dk_21 5 (dk_at dksX4_against_0 13 rfl rfl)
theorem dX4_against_15 : decode cX4_against 15 = .ok (.invokevirtual 289, 3) := dk_182 1 33 (dk_at dksX4_against_0 15 rfl rfl)
theorem dX4_against_18 : decode cX4_against 18 = .ok (.istore 6, 2) := dk_54 6 (dk_at dksX4_against_0 18 rfl rfl)
theorem dX4_against_20 : decode cX4_against 20 = .ok (.iload 6, 2) := dk_21 6 (dk_at dksX4_against_0 20 rfl rfl)
theorem dX4_against_22 : decode cX4_against 22 = .ok (.iconst (-1), 1) := dk_2 (dk_at dksX4_against_0 22 rfl rfl)
theorem dX4_against_23 : decode cX4_against 23 = .ok (.if_icmp .eq 38, 3) := dk_159 0 38 (dk_at dksX4_against_1 0 rfl rfl)
theorem dX4_against_26 : decode cX4_against 26 = .ok (.aload_n 0, 1) := dk_42 (dk_at dksX4_against_1 3 rfl rfl)
theorem dX4_against_27 : decode cX4_against 27 = .ok (.iload 6, 2) := dk_21 6 (dk_at dksX4_against_1 4 rfl rfl)
theorem dX4_against_29 : decode cX4_against 29 = .ok (.aload_n 1, 1) := dk_43 (dk_at dksX4_against_1 6 rfl rfl)
theorem dX4_against_30 : decode cX4_against 30 = .ok (.getfield 283, 3) := dk_180 1 27 (dk_at dksX4_against_1 7 rfl rfl)
theorem dX4_against_33 : decode cX4_against 33 = .ok (.iload 6, 2) := dk_21 6 (dk_at dksX4_against_1 10 rfl rfl)
theorem dX4_against_35 : decode cX4_against 35 = .ok (.iaload, 1) := dk_46 (dk_at dksX4_against_1 12 rfl rfl)
theorem dX4_against_36 : decode cX4_against 36 = .ok (.iload 5, 2) := dk_21 5 (dk_at dksX4_against_1 13 rfl rfl)
theorem dX4_against_38 : decode cX4_against 38 = .ok (.iconst 3, 1) := dk_6 (dk_at dksX4_against_1 15 rfl rfl)
theorem dX4_against_39 : decode cX4_against 39 = .ok (.iadd, 1) := dk_96 (dk_at dksX4_against_1 16 rfl rfl)
theorem dX4_against_40 : decode cX4_against 40 = .ok (.bipush 6, 2) := dk_16 6 (dk_at dksX4_against_1 17 rfl rfl)
theorem dX4_against_42 : decode cX4_against 42 = .ok (.irem, 1) := dk_112 (dk_at dksX4_against_1 19 rfl rfl)
theorem dX4_against_43 : decode cX4_against 43 = .ok (.invokevirtual 286, 3) := dk_182 1 30 (dk_at dksX4_against_1 20 rfl rfl)
theorem dX4_against_46 : decode cX4_against 46 = .ok (.aload_n 0, 1) := dk_42 (dk_at dksX4_against_1 23 rfl rfl)
theorem dX4_against_47 : decode cX4_against 47 = .ok (.iload_n 2, 1) := dk_28 (dk_at dksX4_against_2 0 rfl rfl)
theorem dX4_against_48 : decode cX4_against 48 = .ok (.iload 4, 2) := dk_21 4 (dk_at dksX4_against_2 1 rfl rfl)
theorem dX4_against_50 : decode cX4_against 50 = .ok (.iload 5, 2) := dk_21 5 (dk_at dksX4_against_2 3 rfl rfl)
theorem dX4_against_52 : decode cX4_against 52 = .ok (.invokevirtual 286, 3) := dk_182 1 30 (dk_at dksX4_against_2 5 rfl rfl)
theorem dX4_against_55 : decode cX4_against 55 = .ok (.if_icmp .eq 6, 3) := dk_159 0 6 (dk_at dksX4_against_2 8 rfl rfl)
theorem dX4_against_58 : decode cX4_against 58 = .ok (.iload 5, 2) := dk_21 5 (dk_at dksX4_against_2 11 rfl rfl)
theorem dX4_against_60 : decode cX4_against 60 = .ok (.ireturn, 1) := dk_172 (dk_at dksX4_against_2 13 rfl rfl)
theorem dX4_against_61 : decode cX4_against 61 = .ok (.iinc 5 1, 3) := dk_132 5 1 (dk_at dksX4_against_2 14 rfl rfl)
theorem dX4_against_64 : decode cX4_against 64 = .ok (.goto (-61), 3) := dk_167 255 195 (dk_at dksX4_against_2 17 rfl rfl)
theorem dX4_against_67 : decode cX4_against 67 = .ok (.iconst (-1), 1) := dk_2 (dk_at dksX4_against_2 20 rfl rfl)
theorem dX4_against_68 : decode cX4_against 68 = .ok (.ireturn, 1) := dk_172 (dk_at dksX4_against_2 21 rfl rfl)
abbrev cX4_edgeAgainst : ByteArray := prog_45_method_94_code
def yX4_edgeAgainst : MethodName := ⟨RX4, "edgeAgainst", "(III)I"⟩
def dkwX4_edgeAgainst_1 : List UInt8 := [3, 172]
abbrev dktX4_edgeAgainst_1 : List UInt8 := dkwX4_edgeAgainst_1 ++ []
def dkwX4_edgeAgainst_0 : List UInt8 := [42, 27, 28, 29, 182, 1, 150, 153, 0, 17, 42, 42, 180, 0, 48, 27, 28, 29, 182, 1, 47, 167, 0, 4]
abbrev dktX4_edgeAgainst_0 : List UInt8 := dkwX4_edgeAgainst_0 ++ dktX4_edgeAgainst_1
theorem dksX4_edgeAgainst_0 : cX4_edgeAgainst.data.toList.drop 0 = dktX4_edgeAgainst_0 := by decide +kernel
theorem dksX4_edgeAgainst_1 : cX4_edgeAgainst.data.toList.drop 24 = dktX4_edgeAgainst_1 := dk_seg dksX4_edgeAgainst_0 24 rfl rfl
theorem dX4_edgeAgainst_0 : decode cX4_edgeAgainst 0 = .ok (.aload_n 0, 1) := dk_42 (dk_at dksX4_edgeAgainst_0 0 rfl rfl)
theorem dX4_edgeAgainst_1 : decode cX4_edgeAgainst 1 = .ok (.iload_n 1, 1) := dk_27 (dk_at dksX4_edgeAgainst_0 1 rfl rfl)
theorem dX4_edgeAgainst_2 : decode cX4_edgeAgainst 2 = .ok (.iload_n 2, 1) := dk_28 (dk_at dksX4_edgeAgainst_0 2 rfl rfl)
theorem dX4_edgeAgainst_3 : decode cX4_edgeAgainst 3 = .ok (.iload_n 3, 1) := dk_29 (dk_at dksX4_edgeAgainst_0 3 rfl rfl)
theorem dX4_edgeAgainst_4 : decode cX4_edgeAgainst 4 = .ok (.invokevirtual 406, 3) := dk_182 1 150 (dk_at dksX4_edgeAgainst_0 4 rfl rfl)
theorem dX4_edgeAgainst_7 : decode cX4_edgeAgainst 7 = .ok (.ifCond .eq 17, 3) := dk_153 0 17 (dk_at dksX4_edgeAgainst_0 7 rfl rfl)
theorem dX4_edgeAgainst_10 : decode cX4_edgeAgainst 10 = .ok (.aload_n 0, 1) := dk_42 (dk_at dksX4_edgeAgainst_0 10 rfl rfl)
theorem dX4_edgeAgainst_11 : decode cX4_edgeAgainst 11 = .ok (.aload_n 0, 1) := dk_42 (dk_at dksX4_edgeAgainst_0 11 rfl rfl)
theorem dX4_edgeAgainst_12 : decode cX4_edgeAgainst 12 = .ok (.getfield 48, 3) := dk_180 0 48 (dk_at dksX4_edgeAgainst_0 12 rfl rfl)
theorem dX4_edgeAgainst_15 : decode cX4_edgeAgainst 15 = .ok (.iload_n 1, 1) := dk_27 (dk_at dksX4_edgeAgainst_0 15 rfl rfl)
theorem dX4_edgeAgainst_16 : decode cX4_edgeAgainst 16 = .ok (.iload_n 2, 1) := dk_28 (dk_at dksX4_edgeAgainst_0 16 rfl rfl)
theorem dX4_edgeAgainst_17 : decode cX4_edgeAgainst 17 = .ok (.iload_n 3, 1) := dk_29 (dk_at dksX4_edgeAgainst_0 17 rfl rfl)
theorem dX4_edgeAgainst_18 : decode cX4_edgeAgainst 18 = .ok (.invokevirtual 303, 3) := dk_182 1 47 (dk_at dksX4_edgeAgainst_0 18 rfl rfl)
theorem dX4_edgeAgainst_21 : decode cX4_edgeAgainst 21 = .ok (.goto 4, 3) := dk_167 0 4 (dk_at dksX4_edgeAgainst_0 21 rfl rfl)
theorem dX4_edgeAgainst_24 : decode cX4_edgeAgainst 24 = .ok (.iconst 0, 1) := dk_3 (dk_at dksX4_edgeAgainst_1 0 rfl rfl)
theorem dX4_edgeAgainst_25 : decode cX4_edgeAgainst 25 = .ok (.ireturn, 1) := dk_172 (dk_at dksX4_edgeAgainst_1 1 rfl rfl)
abbrev cX4_waysOf : ByteArray := prog_45_method_95_code
def yX4_waysOf : MethodName := ⟨RX4, "waysOf", "(I)I"⟩
def dkwX4_waysOf_1 : List UInt8 := [167, 0, 8, 42, 4, 182, 0, 254, 172]
abbrev dktX4_waysOf_1 : List UInt8 := dkwX4_waysOf_1 ++ []
def dkwX4_waysOf_0 : List UInt8 := [42, 3, 181, 0, 65, 42, 27, 182, 1, 144, 153, 0, 15, 42, 42, 180, 0, 48, 27, 182, 1, 96]
abbrev dktX4_waysOf_0 : List UInt8 := dkwX4_waysOf_0 ++ dktX4_waysOf_1
theorem dksX4_waysOf_0 : cX4_waysOf.data.toList.drop 0 = dktX4_waysOf_0 := by decide +kernel
theorem dksX4_waysOf_1 : cX4_waysOf.data.toList.drop 22 = dktX4_waysOf_1 := dk_seg dksX4_waysOf_0 22 rfl rfl
theorem dX4_waysOf_0 : decode cX4_waysOf 0 = .ok (.aload_n 0, 1) := dk_42 (dk_at dksX4_waysOf_0 0 rfl rfl)
theorem dX4_waysOf_1 : decode cX4_waysOf 1 = .ok (.iconst 0, 1) := dk_3 (dk_at dksX4_waysOf_0 1 rfl rfl)
theorem dX4_waysOf_2 : decode cX4_waysOf 2 = .ok (.putfield 65, 3) := dk_181 0 65 (dk_at dksX4_waysOf_0 2 rfl rfl)
theorem dX4_waysOf_5 : decode cX4_waysOf 5 = .ok (.aload_n 0, 1) := dk_42 (dk_at dksX4_waysOf_0 5 rfl rfl)
theorem dX4_waysOf_6 : decode cX4_waysOf 6 = .ok (.iload_n 1, 1) := dk_27 (dk_at dksX4_waysOf_0 6 rfl rfl)
theorem dX4_waysOf_7 : decode cX4_waysOf 7 = .ok (.invokevirtual 400, 3) := dk_182 1 144 (dk_at dksX4_waysOf_0 7 rfl rfl)
theorem dX4_waysOf_10 : decode cX4_waysOf 10 = .ok (.ifCond .eq 15, 3) := dk_153 0 15 (dk_at dksX4_waysOf_0 10 rfl rfl)
theorem dX4_waysOf_13 : decode cX4_waysOf 13 = .ok (.aload_n 0, 1) := dk_42 (dk_at dksX4_waysOf_0 13 rfl rfl)
theorem dX4_waysOf_14 : decode cX4_waysOf 14 = .ok (.aload_n 0, 1) := dk_42 (dk_at dksX4_waysOf_0 14 rfl rfl)
theorem dX4_waysOf_15 : decode cX4_waysOf 15 = .ok (.getfield 48, 3) := dk_180 0 48 (dk_at dksX4_waysOf_0 15 rfl rfl)
theorem dX4_waysOf_18 : decode cX4_waysOf 18 = .ok (.iload_n 1, 1) := dk_27 (dk_at dksX4_waysOf_0 18 rfl rfl)
theorem dX4_waysOf_19 : decode cX4_waysOf 19 = .ok (.invokevirtual 352, 3) := dk_182 1 96 (dk_at dksX4_waysOf_0 19 rfl rfl)
theorem dX4_waysOf_22 : decode cX4_waysOf 22 = .ok (.goto 8, 3) := dk_167 0 8 (dk_at dksX4_waysOf_1 0 rfl rfl)
theorem dX4_waysOf_25 : decode cX4_waysOf 25 = .ok (.aload_n 0, 1) := dk_42 (dk_at dksX4_waysOf_1 3 rfl rfl)
theorem dX4_waysOf_26 : decode cX4_waysOf 26 = .ok (.iconst 1, 1) := dk_4 (dk_at dksX4_waysOf_1 4 rfl rfl)
theorem dX4_waysOf_27 : decode cX4_waysOf 27 = .ok (.invokevirtual 254, 3) := dk_182 0 254 (dk_at dksX4_waysOf_1 5 rfl rfl)
theorem dX4_waysOf_30 : decode cX4_waysOf 30 = .ok (.ireturn, 1) := dk_172 (dk_at dksX4_waysOf_1 8 rfl rfl)
abbrev cX4_ways : ByteArray := prog_45_method_52_code
def yX4_ways : MethodName := ⟨RX4, "ways", "(LRingDominoModel$State;I)I"⟩
def dkwX4_ways_2 : List UInt8 := [167, 255, 225, 132, 4, 1, 167, 255, 207, 29, 172]
abbrev dktX4_ways_2 : List UInt8 := dkwX4_ways_2 ++ []
def dkwX4_ways_1 : List UInt8 := [29, 42, 43, 28, 21, 4, 21, 5, 182, 1, 54, 153, 0, 7, 4, 167, 0, 4, 3, 96, 62, 132, 5, 1]
abbrev dktX4_ways_1 : List UInt8 := dkwX4_ways_1 ++ dktX4_ways_2
def dkwX4_ways_0 : List UInt8 := [3, 62, 3, 54, 4, 21, 4, 42, 182, 1, 51, 162, 0, 46, 3, 54, 5, 21, 5, 16, 6, 162, 0, 30]
abbrev dktX4_ways_0 : List UInt8 := dkwX4_ways_0 ++ dktX4_ways_1
theorem dksX4_ways_0 : cX4_ways.data.toList.drop 0 = dktX4_ways_0 := by decide +kernel
theorem dksX4_ways_1 : cX4_ways.data.toList.drop 24 = dktX4_ways_1 := dk_seg dksX4_ways_0 24 rfl rfl
theorem dksX4_ways_2 : cX4_ways.data.toList.drop 48 = dktX4_ways_2 := dk_seg dksX4_ways_1 24 rfl rfl
theorem dX4_ways_0 : decode cX4_ways 0 = .ok (.iconst 0, 1) := dk_3 (dk_at dksX4_ways_0 0 rfl rfl)
theorem dX4_ways_1 : decode cX4_ways 1 = .ok (.istore_n 3, 1) := dk_62 (dk_at dksX4_ways_0 1 rfl rfl)
theorem dX4_ways_2 : decode cX4_ways 2 = .ok (.iconst 0, 1) := dk_3 (dk_at dksX4_ways_0 2 rfl rfl)
theorem dX4_ways_3 : decode cX4_ways 3 = .ok (.istore 4, 2) := dk_54 4 (dk_at dksX4_ways_0 3 rfl rfl)
theorem dX4_ways_5 : decode cX4_ways 5 = .ok (.iload 4, 2) := dk_21 4 (dk_at dksX4_ways_0 5 rfl rfl)
theorem dX4_ways_7 : decode cX4_ways 7 = .ok (.aload_n 0, 1) := dk_42 (dk_at dksX4_ways_0 7 rfl rfl)
theorem dX4_ways_8 : decode cX4_ways 8 = .ok (.invokevirtual 307, 3) := dk_182 1 51 (dk_at dksX4_ways_0 8 rfl rfl)
theorem dX4_ways_11 : decode cX4_ways 11 = .ok (.if_icmp .ge 46, 3) := dk_162 0 46 (dk_at dksX4_ways_0 11 rfl rfl)
theorem dX4_ways_14 : decode cX4_ways 14 = .ok (.iconst 0, 1) := dk_3 (dk_at dksX4_ways_0 14 rfl rfl)
theorem dX4_ways_15 : decode cX4_ways 15 = .ok (.istore 5, 2) := dk_54 5 (dk_at dksX4_ways_0 15 rfl rfl)
theorem dX4_ways_17 : decode cX4_ways 17 = .ok (.iload 5, 2) := dk_21 5 (dk_at dksX4_ways_0 17 rfl rfl)
theorem dX4_ways_19 : decode cX4_ways 19 = .ok (.bipush 6, 2) := dk_16 6 (dk_at dksX4_ways_0 19 rfl rfl)
theorem dX4_ways_21 : decode cX4_ways 21 = .ok (.if_icmp .ge 30, 3) := dk_162 0 30 (dk_at dksX4_ways_0 21 rfl rfl)
theorem dX4_ways_24 : decode cX4_ways 24 = .ok (.iload_n 3, 1) := dk_29 (dk_at dksX4_ways_1 0 rfl rfl)
theorem dX4_ways_25 : decode cX4_ways 25 = .ok (.aload_n 0, 1) := dk_42 (dk_at dksX4_ways_1 1 rfl rfl)
theorem dX4_ways_26 : decode cX4_ways 26 = .ok (.aload_n 1, 1) := dk_43 (dk_at dksX4_ways_1 2 rfl rfl)
theorem dX4_ways_27 : decode cX4_ways 27 = .ok (.iload_n 2, 1) := dk_28 (dk_at dksX4_ways_1 3 rfl rfl)
theorem dX4_ways_28 : decode cX4_ways 28 = .ok (.iload 4, 2) := dk_21 4 (dk_at dksX4_ways_1 4 rfl rfl)
theorem dX4_ways_30 : decode cX4_ways 30 = .ok (.iload 5, 2) := dk_21 5 (dk_at dksX4_ways_1 6 rfl rfl)
theorem dX4_ways_32 : decode cX4_ways 32 = .ok (.invokevirtual 310, 3) := dk_182 1 54 (dk_at dksX4_ways_1 8 rfl rfl)
theorem dX4_ways_35 : decode cX4_ways 35 = .ok (.ifCond .eq 7, 3) := dk_153 0 7 (dk_at dksX4_ways_1 11 rfl rfl)
theorem dX4_ways_38 : decode cX4_ways 38 = .ok (.iconst 1, 1) := dk_4 (dk_at dksX4_ways_1 14 rfl rfl)
theorem dX4_ways_39 : decode cX4_ways 39 = .ok (.goto 4, 3) := dk_167 0 4 (dk_at dksX4_ways_1 15 rfl rfl)
theorem dX4_ways_42 : decode cX4_ways 42 = .ok (.iconst 0, 1) := dk_3 (dk_at dksX4_ways_1 18 rfl rfl)
theorem dX4_ways_43 : decode cX4_ways 43 = .ok (.iadd, 1) := dk_96 (dk_at dksX4_ways_1 19 rfl rfl)
theorem dX4_ways_44 : decode cX4_ways 44 = .ok (.istore_n 3, 1) := dk_62 (dk_at dksX4_ways_1 20 rfl rfl)
theorem dX4_ways_45 : decode cX4_ways 45 = .ok (.iinc 5 1, 3) := dk_132 5 1 (dk_at dksX4_ways_1 21 rfl rfl)
theorem dX4_ways_48 : decode cX4_ways 48 = .ok (.goto (-31), 3) := dk_167 255 225 (dk_at dksX4_ways_2 0 rfl rfl)
theorem dX4_ways_51 : decode cX4_ways 51 = .ok (.iinc 4 1, 3) := dk_132 4 1 (dk_at dksX4_ways_2 3 rfl rfl)
theorem dX4_ways_54 : decode cX4_ways 54 = .ok (.goto (-49), 3) := dk_167 255 207 (dk_at dksX4_ways_2 6 rfl rfl)
theorem dX4_ways_57 : decode cX4_ways 57 = .ok (.iload_n 3, 1) := dk_29 (dk_at dksX4_ways_2 9 rfl rfl)
theorem dX4_ways_58 : decode cX4_ways 58 = .ok (.ireturn, 1) := dk_172 (dk_at dksX4_ways_2 10 rfl rfl)
abbrev cX4_isLeftover : ByteArray := prog_45_method_97_code
def yX4_isLeftover : MethodName := ⟨RX4, "isLeftover", "(I)Z"⟩
def dkwX4_isLeftover_1 : List UInt8 := [182, 1, 135, 172]
abbrev dktX4_isLeftover_1 : List UInt8 := dkwX4_isLeftover_1 ++ []
def dkwX4_isLeftover_0 : List UInt8 := [42, 3, 181, 0, 65, 42, 27, 182, 1, 144, 153, 0, 11, 42, 27, 182, 1, 153, 167, 0, 8, 42, 4]
abbrev dktX4_isLeftover_0 : List UInt8 := dkwX4_isLeftover_0 ++ dktX4_isLeftover_1
theorem dksX4_isLeftover_0 : cX4_isLeftover.data.toList.drop 0 = dktX4_isLeftover_0 := by decide +kernel
theorem dksX4_isLeftover_1 : cX4_isLeftover.data.toList.drop 23 = dktX4_isLeftover_1 := dk_seg dksX4_isLeftover_0 23 rfl rfl
theorem dX4_isLeftover_0 : decode cX4_isLeftover 0 = .ok (.aload_n 0, 1) := dk_42 (dk_at dksX4_isLeftover_0 0 rfl rfl)
theorem dX4_isLeftover_1 : decode cX4_isLeftover 1 = .ok (.iconst 0, 1) := dk_3 (dk_at dksX4_isLeftover_0 1 rfl rfl)
theorem dX4_isLeftover_2 : decode cX4_isLeftover 2 = .ok (.putfield 65, 3) := dk_181 0 65 (dk_at dksX4_isLeftover_0 2 rfl rfl)
theorem dX4_isLeftover_5 : decode cX4_isLeftover 5 = .ok (.aload_n 0, 1) := dk_42 (dk_at dksX4_isLeftover_0 5 rfl rfl)
theorem dX4_isLeftover_6 : decode cX4_isLeftover 6 = .ok (.iload_n 1, 1) := dk_27 (dk_at dksX4_isLeftover_0 6 rfl rfl)
theorem dX4_isLeftover_7 : decode cX4_isLeftover 7 = .ok (.invokevirtual 400, 3) := dk_182 1 144 (dk_at dksX4_isLeftover_0 7 rfl rfl)
theorem dX4_isLeftover_10 : decode cX4_isLeftover 10 = .ok (.ifCond .eq 11, 3) := dk_153 0 11 (dk_at dksX4_isLeftover_0 10 rfl rfl)
theorem dX4_isLeftover_13 : decode cX4_isLeftover 13 = .ok (.aload_n 0, 1) := dk_42 (dk_at dksX4_isLeftover_0 13 rfl rfl)
theorem dX4_isLeftover_14 : decode cX4_isLeftover 14 = .ok (.iload_n 1, 1) := dk_27 (dk_at dksX4_isLeftover_0 14 rfl rfl)
theorem dX4_isLeftover_15 : decode cX4_isLeftover 15 = .ok (.invokevirtual 409, 3) := dk_182 1 153 (dk_at dksX4_isLeftover_0 15 rfl rfl)
theorem dX4_isLeftover_18 : decode cX4_isLeftover 18 = .ok (.goto 8, 3) := dk_167 0 8 (dk_at dksX4_isLeftover_0 18 rfl rfl)
theorem dX4_isLeftover_21 : decode cX4_isLeftover 21 = .ok (.aload_n 0, 1) := dk_42 (dk_at dksX4_isLeftover_0 21 rfl rfl)
theorem dX4_isLeftover_22 : decode cX4_isLeftover 22 = .ok (.iconst 1, 1) := dk_4 (dk_at dksX4_isLeftover_0 22 rfl rfl)
theorem dX4_isLeftover_23 : decode cX4_isLeftover 23 = .ok (.invokevirtual 391, 3) := dk_182 1 135 (dk_at dksX4_isLeftover_1 0 rfl rfl)
theorem dX4_isLeftover_26 : decode cX4_isLeftover 26 = .ok (.ireturn, 1) := dk_172 (dk_at dksX4_isLeftover_1 3 rfl rfl)
abbrev cX4_leftover : ByteArray := prog_45_method_96_code
def yX4_leftover : MethodName := ⟨RX4, "leftover", "(I)Z"⟩
def dkwX4_leftover_1 : List UInt8 := [160, 0, 7, 4, 167, 0, 4, 3, 172]
abbrev dktX4_leftover_1 : List UInt8 := dkwX4_leftover_1 ++ []
def dkwX4_leftover_0 : List UInt8 := [42, 180, 0, 48, 180, 1, 37, 27, 46, 2, 160, 0, 20, 42, 42, 180, 0, 48, 27, 182, 1, 99, 2]
abbrev dktX4_leftover_0 : List UInt8 := dkwX4_leftover_0 ++ dktX4_leftover_1
theorem dksX4_leftover_0 : cX4_leftover.data.toList.drop 0 = dktX4_leftover_0 := by decide +kernel
theorem dksX4_leftover_1 : cX4_leftover.data.toList.drop 23 = dktX4_leftover_1 := dk_seg dksX4_leftover_0 23 rfl rfl
theorem dX4_leftover_0 : decode cX4_leftover 0 = .ok (.aload_n 0, 1) := dk_42 (dk_at dksX4_leftover_0 0 rfl rfl)
theorem dX4_leftover_1 : decode cX4_leftover 1 = .ok (.getfield 48, 3) := dk_180 0 48 (dk_at dksX4_leftover_0 1 rfl rfl)
theorem dX4_leftover_4 : decode cX4_leftover 4 = .ok (.getfield 293, 3) := dk_180 1 37 (dk_at dksX4_leftover_0 4 rfl rfl)
theorem dX4_leftover_7 : decode cX4_leftover 7 = .ok (.iload_n 1, 1) := dk_27 (dk_at dksX4_leftover_0 7 rfl rfl)
theorem dX4_leftover_8 : decode cX4_leftover 8 = .ok (.iaload, 1) := dk_46 (dk_at dksX4_leftover_0 8 rfl rfl)
theorem dX4_leftover_9 : decode cX4_leftover 9 = .ok (.iconst (-1), 1) := dk_2 (dk_at dksX4_leftover_0 9 rfl rfl)
theorem dX4_leftover_10 : decode cX4_leftover 10 = .ok (.if_icmp .ne 20, 3) := dk_160 0 20 (dk_at dksX4_leftover_0 10 rfl rfl)
theorem dX4_leftover_13 : decode cX4_leftover 13 = .ok (.aload_n 0, 1) := dk_42 (dk_at dksX4_leftover_0 13 rfl rfl)
theorem dX4_leftover_14 : decode cX4_leftover 14 = .ok (.aload_n 0, 1) := dk_42 (dk_at dksX4_leftover_0 14 rfl rfl)
theorem dX4_leftover_15 : decode cX4_leftover 15 = .ok (.getfield 48, 3) := dk_180 0 48 (dk_at dksX4_leftover_0 15 rfl rfl)
theorem dX4_leftover_18 : decode cX4_leftover 18 = .ok (.iload_n 1, 1) := dk_27 (dk_at dksX4_leftover_0 18 rfl rfl)
theorem dX4_leftover_19 : decode cX4_leftover 19 = .ok (.invokevirtual 355, 3) := dk_182 1 99 (dk_at dksX4_leftover_0 19 rfl rfl)
theorem dX4_leftover_22 : decode cX4_leftover 22 = .ok (.iconst (-1), 1) := dk_2 (dk_at dksX4_leftover_0 22 rfl rfl)
theorem dX4_leftover_23 : decode cX4_leftover 23 = .ok (.if_icmp .ne 7, 3) := dk_160 0 7 (dk_at dksX4_leftover_1 0 rfl rfl)
theorem dX4_leftover_26 : decode cX4_leftover 26 = .ok (.iconst 1, 1) := dk_4 (dk_at dksX4_leftover_1 3 rfl rfl)
theorem dX4_leftover_27 : decode cX4_leftover 27 = .ok (.goto 4, 3) := dk_167 0 4 (dk_at dksX4_leftover_1 4 rfl rfl)
theorem dX4_leftover_30 : decode cX4_leftover 30 = .ok (.iconst 0, 1) := dk_3 (dk_at dksX4_leftover_1 7 rfl rfl)
theorem dX4_leftover_31 : decode cX4_leftover 31 = .ok (.ireturn, 1) := dk_172 (dk_at dksX4_leftover_1 8 rfl rfl)
abbrev cX4_firstWay : ByteArray := prog_45_method_53_code
def yX4_firstWay : MethodName := ⟨RX4, "firstWay", "(LRingDominoModel$State;I)I"⟩
def dkwX4_firstWay_2 : List UInt8 := [132, 3, 1, 167, 255, 209, 2, 172]
abbrev dktX4_firstWay_2 : List UInt8 := dkwX4_firstWay_2 ++ []
def dkwX4_firstWay_1 : List UInt8 := [21, 4, 182, 1, 54, 153, 0, 11, 16, 6, 29, 104, 21, 4, 96, 172, 132, 4, 1, 167, 255, 226]
abbrev dktX4_firstWay_1 : List UInt8 := dkwX4_firstWay_1 ++ dktX4_firstWay_2
def dkwX4_firstWay_0 : List UInt8 := [3, 62, 29, 42, 182, 1, 51, 162, 0, 45, 3, 54, 4, 21, 4, 16, 6, 162, 0, 29, 42, 43, 28, 29]
abbrev dktX4_firstWay_0 : List UInt8 := dkwX4_firstWay_0 ++ dktX4_firstWay_1
theorem dksX4_firstWay_0 : cX4_firstWay.data.toList.drop 0 = dktX4_firstWay_0 := by decide +kernel
theorem dksX4_firstWay_1 : cX4_firstWay.data.toList.drop 24 = dktX4_firstWay_1 := dk_seg dksX4_firstWay_0 24 rfl rfl
theorem dksX4_firstWay_2 : cX4_firstWay.data.toList.drop 46 = dktX4_firstWay_2 := dk_seg dksX4_firstWay_1 22 rfl rfl
theorem dX4_firstWay_0 : decode cX4_firstWay 0 = .ok (.iconst 0, 1) := dk_3 (dk_at dksX4_firstWay_0 0 rfl rfl)
theorem dX4_firstWay_1 : decode cX4_firstWay 1 = .ok (.istore_n 3, 1) := dk_62 (dk_at dksX4_firstWay_0 1 rfl rfl)
theorem dX4_firstWay_2 : decode cX4_firstWay 2 = .ok (.iload_n 3, 1) := dk_29 (dk_at dksX4_firstWay_0 2 rfl rfl)
theorem dX4_firstWay_3 : decode cX4_firstWay 3 = .ok (.aload_n 0, 1) := dk_42 (dk_at dksX4_firstWay_0 3 rfl rfl)
theorem dX4_firstWay_4 : decode cX4_firstWay 4 = .ok (.invokevirtual 307, 3) := dk_182 1 51 (dk_at dksX4_firstWay_0 4 rfl rfl)
theorem dX4_firstWay_7 : decode cX4_firstWay 7 = .ok (.if_icmp .ge 45, 3) := dk_162 0 45 (dk_at dksX4_firstWay_0 7 rfl rfl)
theorem dX4_firstWay_10 : decode cX4_firstWay 10 = .ok (.iconst 0, 1) := dk_3 (dk_at dksX4_firstWay_0 10 rfl rfl)
theorem dX4_firstWay_11 : decode cX4_firstWay 11 = .ok (.istore 4, 2) := dk_54 4 (dk_at dksX4_firstWay_0 11 rfl rfl)
theorem dX4_firstWay_13 : decode cX4_firstWay 13 = .ok (.iload 4, 2) := dk_21 4 (dk_at dksX4_firstWay_0 13 rfl rfl)
theorem dX4_firstWay_15 : decode cX4_firstWay 15 = .ok (.bipush 6, 2) := dk_16 6 (dk_at dksX4_firstWay_0 15 rfl rfl)
theorem dX4_firstWay_17 : decode cX4_firstWay 17 = .ok (.if_icmp .ge 29, 3) := dk_162 0 29 (dk_at dksX4_firstWay_0 17 rfl rfl)
theorem dX4_firstWay_20 : decode cX4_firstWay 20 = .ok (.aload_n 0, 1) := dk_42 (dk_at dksX4_firstWay_0 20 rfl rfl)
theorem dX4_firstWay_21 : decode cX4_firstWay 21 = .ok (.aload_n 1, 1) := dk_43 (dk_at dksX4_firstWay_0 21 rfl rfl)
theorem dX4_firstWay_22 : decode cX4_firstWay 22 = .ok (.iload_n 2, 1) := dk_28 (dk_at dksX4_firstWay_0 22 rfl rfl)
theorem dX4_firstWay_23 : decode cX4_firstWay 23 = .ok (.iload_n 3, 1) := dk_29 (dk_at dksX4_firstWay_0 23 rfl rfl)
theorem dX4_firstWay_24 : decode cX4_firstWay 24 = .ok (.iload 4, 2) := dk_21 4 (dk_at dksX4_firstWay_1 0 rfl rfl)
theorem dX4_firstWay_26 : decode cX4_firstWay 26 = .ok (.invokevirtual 310, 3) := dk_182 1 54 (dk_at dksX4_firstWay_1 2 rfl rfl)
theorem dX4_firstWay_29 : decode cX4_firstWay 29 = .ok (.ifCond .eq 11, 3) := dk_153 0 11 (dk_at dksX4_firstWay_1 5 rfl rfl)
theorem dX4_firstWay_32 : decode cX4_firstWay 32 = .ok (.bipush 6, 2) := dk_16 6 (dk_at dksX4_firstWay_1 8 rfl rfl)
theorem dX4_firstWay_34 : decode cX4_firstWay 34 = .ok (.iload_n 3, 1) := dk_29 (dk_at dksX4_firstWay_1 10 rfl rfl)
theorem dX4_firstWay_35 : decode cX4_firstWay 35 = .ok (.imul, 1) := dk_104 (dk_at dksX4_firstWay_1 11 rfl rfl)
theorem dX4_firstWay_36 : decode cX4_firstWay 36 = .ok (.iload 4, 2) := dk_21 4 (dk_at dksX4_firstWay_1 12 rfl rfl)
theorem dX4_firstWay_38 : decode cX4_firstWay 38 = .ok (.iadd, 1) := dk_96 (dk_at dksX4_firstWay_1 14 rfl rfl)
theorem dX4_firstWay_39 : decode cX4_firstWay 39 = .ok (.ireturn, 1) := dk_172 (dk_at dksX4_firstWay_1 15 rfl rfl)
theorem dX4_firstWay_40 : decode cX4_firstWay 40 = .ok (.iinc 4 1, 3) := dk_132 4 1 (dk_at dksX4_firstWay_1 16 rfl rfl)
theorem dX4_firstWay_43 : decode cX4_firstWay 43 = .ok (.goto (-30), 3) := dk_167 255 226 (dk_at dksX4_firstWay_1 19 rfl rfl)
theorem dX4_firstWay_46 : decode cX4_firstWay 46 = .ok (.iinc 3 1, 3) := dk_132 3 1 (dk_at dksX4_firstWay_2 0 rfl rfl)
theorem dX4_firstWay_49 : decode cX4_firstWay 49 = .ok (.goto (-47), 3) := dk_167 255 209 (dk_at dksX4_firstWay_2 3 rfl rfl)
theorem dX4_firstWay_52 : decode cX4_firstWay 52 = .ok (.iconst (-1), 1) := dk_2 (dk_at dksX4_firstWay_2 6 rfl rfl)
theorem dX4_firstWay_53 : decode cX4_firstWay 53 = .ok (.ireturn, 1) := dk_172 (dk_at dksX4_firstWay_2 7 rfl rfl)
abbrev cX4_looksToProve : ByteArray := prog_45_method_98_code
def yX4_looksToProve : MethodName := ⟨RX4, "looksToProve", "(I)I"⟩
def dkwX4_looksToProve_6 : List UInt8 := [62, 29, 153, 0, 7, 28, 167, 0, 7, 16, 6, 28, 104, 172]
abbrev dktX4_looksToProve_6 : List UInt8 := dkwX4_looksToProve_6 ++ []
def dkwX4_looksToProve_5 : List UInt8 := [27, 104, 46, 42, 180, 0, 35, 180, 0, 214, 6, 27, 104, 5, 96, 46, 160, 0, 7, 4, 167, 0, 4, 3]
abbrev dktX4_looksToProve_5 : List UInt8 := dkwX4_looksToProve_5 ++ dktX4_looksToProve_6
def dkwX4_looksToProve_4 : List UInt8 := [42, 180, 0, 35, 180, 0, 214, 6, 27, 104, 4, 96, 46, 160, 0, 34, 42, 180, 0, 35, 180, 0, 214, 6]
abbrev dktX4_looksToProve_4 : List UInt8 := dkwX4_looksToProve_4 ++ dktX4_looksToProve_5
def dkwX4_looksToProve_3 : List UInt8 := [4, 167, 0, 4, 3, 96, 61, 132, 3, 1, 167, 255, 212, 42, 180, 0, 35, 180, 0, 214, 6, 27, 104, 46]
abbrev dktX4_looksToProve_3 : List UInt8 := dkwX4_looksToProve_3 ++ dktX4_looksToProve_4
def dkwX4_looksToProve_2 : List UInt8 := [180, 0, 48, 180, 1, 24, 29, 46, 2, 160, 0, 19, 42, 42, 180, 0, 48, 29, 182, 1, 43, 158, 0, 7]
abbrev dktX4_looksToProve_2 : List UInt8 := dkwX4_looksToProve_2 ++ dktX4_looksToProve_3
def dkwX4_looksToProve_1 : List UInt8 := [154, 0, 9, 42, 5, 182, 0, 254, 172, 3, 61, 3, 62, 29, 42, 182, 1, 51, 162, 0, 42, 28, 42]
abbrev dktX4_looksToProve_1 : List UInt8 := dkwX4_looksToProve_1 ++ dktX4_looksToProve_2
def dkwX4_looksToProve_0 : List UInt8 := [42, 3, 181, 0, 65, 42, 27, 182, 1, 144, 154, 0, 9, 42, 4, 182, 0, 254, 172, 42, 27, 182, 1, 153]
abbrev dktX4_looksToProve_0 : List UInt8 := dkwX4_looksToProve_0 ++ dktX4_looksToProve_1
theorem dksX4_looksToProve_0 : cX4_looksToProve.data.toList.drop 0 = dktX4_looksToProve_0 := by decide +kernel
theorem dksX4_looksToProve_1 : cX4_looksToProve.data.toList.drop 24 = dktX4_looksToProve_1 := dk_seg dksX4_looksToProve_0 24 rfl rfl
theorem dksX4_looksToProve_2 : cX4_looksToProve.data.toList.drop 47 = dktX4_looksToProve_2 := dk_seg dksX4_looksToProve_1 23 rfl rfl
theorem dksX4_looksToProve_3 : cX4_looksToProve.data.toList.drop 71 = dktX4_looksToProve_3 := dk_seg dksX4_looksToProve_2 24 rfl rfl
theorem dksX4_looksToProve_4 : cX4_looksToProve.data.toList.drop 95 = dktX4_looksToProve_4 := dk_seg dksX4_looksToProve_3 24 rfl rfl
theorem dksX4_looksToProve_5 : cX4_looksToProve.data.toList.drop 119 = dktX4_looksToProve_5 := dk_seg dksX4_looksToProve_4 24 rfl rfl
theorem dksX4_looksToProve_6 : cX4_looksToProve.data.toList.drop 143 = dktX4_looksToProve_6 := dk_seg dksX4_looksToProve_5 24 rfl rfl
theorem dX4_looksToProve_0 : decode cX4_looksToProve 0 = .ok (.aload_n 0, 1) := dk_42 (dk_at dksX4_looksToProve_0 0 rfl rfl)
theorem dX4_looksToProve_1 : decode cX4_looksToProve 1 = .ok (.iconst 0, 1) := dk_3 (dk_at dksX4_looksToProve_0 1 rfl rfl)
theorem dX4_looksToProve_2 : decode cX4_looksToProve 2 = .ok (.putfield 65, 3) := dk_181 0 65 (dk_at dksX4_looksToProve_0 2 rfl rfl)
theorem dX4_looksToProve_5 : decode cX4_looksToProve 5 = .ok (.aload_n 0, 1) := dk_42 (dk_at dksX4_looksToProve_0 5 rfl rfl)
theorem dX4_looksToProve_6 : decode cX4_looksToProve 6 = .ok (.iload_n 1, 1) := dk_27 (dk_at dksX4_looksToProve_0 6 rfl rfl)
theorem dX4_looksToProve_7 : decode cX4_looksToProve 7 = .ok (.invokevirtual 400, 3) := dk_182 1 144 (dk_at dksX4_looksToProve_0 7 rfl rfl)
theorem dX4_looksToProve_10 : decode cX4_looksToProve 10 = .ok (.ifCond .ne 9, 3) := dk_154 0 9 (dk_at dksX4_looksToProve_0 10 rfl rfl)
theorem dX4_looksToProve_13 : decode cX4_looksToProve 13 = .ok (.aload_n 0, 1) := dk_42 (dk_at dksX4_looksToProve_0 13 rfl rfl)
theorem dX4_looksToProve_14 : decode cX4_looksToProve 14 = .ok (.iconst 1, 1) := dk_4 (dk_at dksX4_looksToProve_0 14 rfl rfl)
theorem dX4_looksToProve_15 : decode cX4_looksToProve 15 = .ok (.invokevirtual 254, 3) := dk_182 0 254 (dk_at dksX4_looksToProve_0 15 rfl rfl)
theorem dX4_looksToProve_18 : decode cX4_looksToProve 18 = .ok (.ireturn, 1) := dk_172 (dk_at dksX4_looksToProve_0 18 rfl rfl)
theorem dX4_looksToProve_19 : decode cX4_looksToProve 19 = .ok (.aload_n 0, 1) := dk_42 (dk_at dksX4_looksToProve_0 19 rfl rfl)
theorem dX4_looksToProve_20 : decode cX4_looksToProve 20 = .ok (.iload_n 1, 1) := dk_27 (dk_at dksX4_looksToProve_0 20 rfl rfl)
theorem dX4_looksToProve_21 : decode cX4_looksToProve 21 = .ok (.invokevirtual 409, 3) := dk_182 1 153 (dk_at dksX4_looksToProve_0 21 rfl rfl)
theorem dX4_looksToProve_24 : decode cX4_looksToProve 24 = .ok (.ifCond .ne 9, 3) := dk_154 0 9 (dk_at dksX4_looksToProve_1 0 rfl rfl)
theorem dX4_looksToProve_27 : decode cX4_looksToProve 27 = .ok (.aload_n 0, 1) := dk_42 (dk_at dksX4_looksToProve_1 3 rfl rfl)
theorem dX4_looksToProve_28 : decode cX4_looksToProve 28 = .ok (.iconst 2, 1) := dk_5 (dk_at dksX4_looksToProve_1 4 rfl rfl)
theorem dX4_looksToProve_29 : decode cX4_looksToProve 29 = .ok (.invokevirtual 254, 3) := dk_182 0 254 (dk_at dksX4_looksToProve_1 5 rfl rfl)
theorem dX4_looksToProve_32 : decode cX4_looksToProve 32 = .ok (.ireturn, 1) := dk_172 (dk_at dksX4_looksToProve_1 8 rfl rfl)
theorem dX4_looksToProve_33 : decode cX4_looksToProve 33 = .ok (.iconst 0, 1) := dk_3 (dk_at dksX4_looksToProve_1 9 rfl rfl)
theorem dX4_looksToProve_34 : decode cX4_looksToProve 34 = .ok (.istore_n 2, 1) := dk_61 (dk_at dksX4_looksToProve_1 10 rfl rfl)
theorem dX4_looksToProve_35 : decode cX4_looksToProve 35 = .ok (.iconst 0, 1) := dk_3 (dk_at dksX4_looksToProve_1 11 rfl rfl)
theorem dX4_looksToProve_36 : decode cX4_looksToProve 36 = .ok (.istore_n 3, 1) := dk_62 (dk_at dksX4_looksToProve_1 12 rfl rfl)
theorem dX4_looksToProve_37 : decode cX4_looksToProve 37 = .ok (.iload_n 3, 1) := dk_29 (dk_at dksX4_looksToProve_1 13 rfl rfl)
theorem dX4_looksToProve_38 : decode cX4_looksToProve 38 = .ok (.aload_n 0, 1) := dk_42 (dk_at dksX4_looksToProve_1 14 rfl rfl)
theorem dX4_looksToProve_39 : decode cX4_looksToProve 39 = .ok (.invokevirtual 307, 3) := dk_182 1 51 (dk_at dksX4_looksToProve_1 15 rfl rfl)
theorem dX4_looksToProve_42 : decode cX4_looksToProve 42 = .ok (.if_icmp .ge 42, 3) := dk_162 0 42 (dk_at dksX4_looksToProve_1 18 rfl rfl)
theorem dX4_looksToProve_45 : decode cX4_looksToProve 45 = .ok (.iload_n 2, 1) := dk_28 (dk_at dksX4_looksToProve_1 21 rfl rfl)
theorem dX4_looksToProve_46 : decode cX4_looksToProve 46 = .ok (.aload_n 0, 1) := dk_42 (dk_at dksX4_looksToProve_1 22 rfl rfl)
theorem dX4_looksToProve_47 : decode cX4_looksToProve 47 = .ok (.getfield 48, 3) := dk_180 0 48 (dk_at dksX4_looksToProve_2 0 rfl rfl)
theorem dX4_looksToProve_50 : decode cX4_looksToProve 50 = .ok (.getfield 280, 3) := dk_180 1 24 (dk_at dksX4_looksToProve_2 3 rfl rfl)
theorem dX4_looksToProve_53 : decode cX4_looksToProve 53 = .ok (.iload_n 3, 1) := dk_29 (dk_at dksX4_looksToProve_2 6 rfl rfl)
theorem dX4_looksToProve_54 : decode cX4_looksToProve 54 = .ok (.iaload, 1) := dk_46 (dk_at dksX4_looksToProve_2 7 rfl rfl)
theorem dX4_looksToProve_55 : decode cX4_looksToProve 55 = .ok (.iconst (-1), 1) := dk_2 (dk_at dksX4_looksToProve_2 8 rfl rfl)
theorem dX4_looksToProve_56 : decode cX4_looksToProve 56 = .ok (.if_icmp .ne 19, 3) := dk_160 0 19 (dk_at dksX4_looksToProve_2 9 rfl rfl)
theorem dX4_looksToProve_59 : decode cX4_looksToProve 59 = .ok (.aload_n 0, 1) := dk_42 (dk_at dksX4_looksToProve_2 12 rfl rfl)
theorem dX4_looksToProve_60 : decode cX4_looksToProve 60 = .ok (.aload_n 0, 1) := dk_42 (dk_at dksX4_looksToProve_2 13 rfl rfl)
theorem dX4_looksToProve_61 : decode cX4_looksToProve 61 = .ok (.getfield 48, 3) := dk_180 0 48 (dk_at dksX4_looksToProve_2 14 rfl rfl)
theorem dX4_looksToProve_64 : decode cX4_looksToProve 64 = .ok (.iload_n 3, 1) := dk_29 (dk_at dksX4_looksToProve_2 17 rfl rfl)
theorem dX4_looksToProve_65 : decode cX4_looksToProve 65 = .ok (.invokevirtual 299, 3) := dk_182 1 43 (dk_at dksX4_looksToProve_2 18 rfl rfl)
theorem dX4_looksToProve_68 : decode cX4_looksToProve 68 = .ok (.ifCond .le 7, 3) := dk_158 0 7 (dk_at dksX4_looksToProve_2 21 rfl rfl)
theorem dX4_looksToProve_71 : decode cX4_looksToProve 71 = .ok (.iconst 1, 1) := dk_4 (dk_at dksX4_looksToProve_3 0 rfl rfl)
theorem dX4_looksToProve_72 : decode cX4_looksToProve 72 = .ok (.goto 4, 3) := dk_167 0 4 (dk_at dksX4_looksToProve_3 1 rfl rfl)
theorem dX4_looksToProve_75 : decode cX4_looksToProve 75 = .ok (.iconst 0, 1) := dk_3 (dk_at dksX4_looksToProve_3 4 rfl rfl)
theorem dX4_looksToProve_76 : decode cX4_looksToProve 76 = .ok (.iadd, 1) := dk_96 (dk_at dksX4_looksToProve_3 5 rfl rfl)
theorem dX4_looksToProve_77 : decode cX4_looksToProve 77 = .ok (.istore_n 2, 1) := dk_61 (dk_at dksX4_looksToProve_3 6 rfl rfl)
theorem dX4_looksToProve_78 : decode cX4_looksToProve 78 = .ok (.iinc 3 1, 3) := dk_132 3 1 (dk_at dksX4_looksToProve_3 7 rfl rfl)
theorem dX4_looksToProve_81 : decode cX4_looksToProve 81 = .ok (.goto (-44), 3) := dk_167 255 212 (dk_at dksX4_looksToProve_3 10 rfl rfl)
theorem dX4_looksToProve_84 : decode cX4_looksToProve 84 = .ok (.aload_n 0, 1) := dk_42 (dk_at dksX4_looksToProve_3 13 rfl rfl)
theorem dX4_looksToProve_85 : decode cX4_looksToProve 85 = .ok (.getfield 35, 3) := dk_180 0 35 (dk_at dksX4_looksToProve_3 14 rfl rfl)
theorem dX4_looksToProve_88 : decode cX4_looksToProve 88 = .ok (.getfield 214, 3) := dk_180 0 214 (dk_at dksX4_looksToProve_3 17 rfl rfl)
theorem dX4_looksToProve_91 : decode cX4_looksToProve 91 = .ok (.iconst 3, 1) := dk_6 (dk_at dksX4_looksToProve_3 20 rfl rfl)
theorem dX4_looksToProve_92 : decode cX4_looksToProve 92 = .ok (.iload_n 1, 1) := dk_27 (dk_at dksX4_looksToProve_3 21 rfl rfl)
theorem dX4_looksToProve_93 : decode cX4_looksToProve 93 = .ok (.imul, 1) := dk_104 (dk_at dksX4_looksToProve_3 22 rfl rfl)
theorem dX4_looksToProve_94 : decode cX4_looksToProve 94 = .ok (.iaload, 1) := dk_46 (dk_at dksX4_looksToProve_3 23 rfl rfl)
theorem dX4_looksToProve_95 : decode cX4_looksToProve 95 = .ok (.aload_n 0, 1) := dk_42 (dk_at dksX4_looksToProve_4 0 rfl rfl)
theorem dX4_looksToProve_96 : decode cX4_looksToProve 96 = .ok (.getfield 35, 3) := dk_180 0 35 (dk_at dksX4_looksToProve_4 1 rfl rfl)
theorem dX4_looksToProve_99 : decode cX4_looksToProve 99 = .ok (.getfield 214, 3) := dk_180 0 214 (dk_at dksX4_looksToProve_4 4 rfl rfl)
theorem dX4_looksToProve_102 : decode cX4_looksToProve 102 = .ok (.iconst 3, 1) := dk_6 (dk_at dksX4_looksToProve_4 7 rfl rfl)
theorem dX4_looksToProve_103 : decode cX4_looksToProve 103 = .ok (.iload_n 1, 1) := dk_27 (dk_at dksX4_looksToProve_4 8 rfl rfl)
theorem dX4_looksToProve_104 : decode cX4_looksToProve 104 = .ok (.imul, 1) := dk_104 (dk_at dksX4_looksToProve_4 9 rfl rfl)
theorem dX4_looksToProve_105 : decode cX4_looksToProve 105 = .ok (.iconst 1, 1) := dk_4 (dk_at dksX4_looksToProve_4 10 rfl rfl)
theorem dX4_looksToProve_106 : decode cX4_looksToProve 106 = .ok (.iadd, 1) := dk_96 (dk_at dksX4_looksToProve_4 11 rfl rfl)
theorem dX4_looksToProve_107 : decode cX4_looksToProve 107 = .ok (.iaload, 1) := dk_46 (dk_at dksX4_looksToProve_4 12 rfl rfl)
theorem dX4_looksToProve_108 : decode cX4_looksToProve 108 = .ok (.if_icmp .ne 34, 3) := dk_160 0 34 (dk_at dksX4_looksToProve_4 13 rfl rfl)
theorem dX4_looksToProve_111 : decode cX4_looksToProve 111 = .ok (.aload_n 0, 1) := dk_42 (dk_at dksX4_looksToProve_4 16 rfl rfl)
theorem dX4_looksToProve_112 : decode cX4_looksToProve 112 = .ok (.getfield 35, 3) := dk_180 0 35 (dk_at dksX4_looksToProve_4 17 rfl rfl)
theorem dX4_looksToProve_115 : decode cX4_looksToProve 115 = .ok (.getfield 214, 3) := dk_180 0 214 (dk_at dksX4_looksToProve_4 20 rfl rfl)
theorem dX4_looksToProve_118 : decode cX4_looksToProve 118 = .ok (.iconst 3, 1) := dk_6 (dk_at dksX4_looksToProve_4 23 rfl rfl)
theorem dX4_looksToProve_119 : decode cX4_looksToProve 119 = .ok (.iload_n 1, 1) := dk_27 (dk_at dksX4_looksToProve_5 0 rfl rfl)
theorem dX4_looksToProve_120 : decode cX4_looksToProve 120 = .ok (.imul, 1) := dk_104 (dk_at dksX4_looksToProve_5 1 rfl rfl)
theorem dX4_looksToProve_121 : decode cX4_looksToProve 121 = .ok (.iaload, 1) := dk_46 (dk_at dksX4_looksToProve_5 2 rfl rfl)
theorem dX4_looksToProve_122 : decode cX4_looksToProve 122 = .ok (.aload_n 0, 1) := dk_42 (dk_at dksX4_looksToProve_5 3 rfl rfl)
theorem dX4_looksToProve_123 : decode cX4_looksToProve 123 = .ok (.getfield 35, 3) := dk_180 0 35 (dk_at dksX4_looksToProve_5 4 rfl rfl)
theorem dX4_looksToProve_126 : decode cX4_looksToProve 126 = .ok (.getfield 214, 3) := dk_180 0 214 (dk_at dksX4_looksToProve_5 7 rfl rfl)
theorem dX4_looksToProve_129 : decode cX4_looksToProve 129 = .ok (.iconst 3, 1) := dk_6 (dk_at dksX4_looksToProve_5 10 rfl rfl)
theorem dX4_looksToProve_130 : decode cX4_looksToProve 130 = .ok (.iload_n 1, 1) := dk_27 (dk_at dksX4_looksToProve_5 11 rfl rfl)
theorem dX4_looksToProve_131 : decode cX4_looksToProve 131 = .ok (.imul, 1) := dk_104 (dk_at dksX4_looksToProve_5 12 rfl rfl)
theorem dX4_looksToProve_132 : decode cX4_looksToProve 132 = .ok (.iconst 2, 1) := dk_5 (dk_at dksX4_looksToProve_5 13 rfl rfl)
theorem dX4_looksToProve_133 : decode cX4_looksToProve 133 = .ok (.iadd, 1) := dk_96 (dk_at dksX4_looksToProve_5 14 rfl rfl)
theorem dX4_looksToProve_134 : decode cX4_looksToProve 134 = .ok (.iaload, 1) := dk_46 (dk_at dksX4_looksToProve_5 15 rfl rfl)
theorem dX4_looksToProve_135 : decode cX4_looksToProve 135 = .ok (.if_icmp .ne 7, 3) := dk_160 0 7 (dk_at dksX4_looksToProve_5 16 rfl rfl)
theorem dX4_looksToProve_138 : decode cX4_looksToProve 138 = .ok (.iconst 1, 1) := dk_4 (dk_at dksX4_looksToProve_5 19 rfl rfl)
theorem dX4_looksToProve_139 : decode cX4_looksToProve 139 = .ok (.goto 4, 3) := dk_167 0 4 (dk_at dksX4_looksToProve_5 20 rfl rfl)
theorem dX4_looksToProve_142 : decode cX4_looksToProve 142 = .ok (.iconst 0, 1) := dk_3 (dk_at dksX4_looksToProve_5 23 rfl rfl)
theorem dX4_looksToProve_143 : decode cX4_looksToProve 143 = .ok (.istore_n 3, 1) := dk_62 (dk_at dksX4_looksToProve_6 0 rfl rfl)
theorem dX4_looksToProve_144 : decode cX4_looksToProve 144 = .ok (.iload_n 3, 1) := dk_29 (dk_at dksX4_looksToProve_6 1 rfl rfl)
theorem dX4_looksToProve_145 : decode cX4_looksToProve 145 = .ok (.ifCond .eq 7, 3) := dk_153 0 7 (dk_at dksX4_looksToProve_6 2 rfl rfl)
theorem dX4_looksToProve_148 : decode cX4_looksToProve 148 = .ok (.iload_n 2, 1) := dk_28 (dk_at dksX4_looksToProve_6 5 rfl rfl)
theorem dX4_looksToProve_149 : decode cX4_looksToProve 149 = .ok (.goto 7, 3) := dk_167 0 7 (dk_at dksX4_looksToProve_6 6 rfl rfl)
theorem dX4_looksToProve_152 : decode cX4_looksToProve 152 = .ok (.bipush 6, 2) := dk_16 6 (dk_at dksX4_looksToProve_6 9 rfl rfl)
theorem dX4_looksToProve_154 : decode cX4_looksToProve 154 = .ok (.iload_n 2, 1) := dk_28 (dk_at dksX4_looksToProve_6 11 rfl rfl)
theorem dX4_looksToProve_155 : decode cX4_looksToProve 155 = .ok (.imul, 1) := dk_104 (dk_at dksX4_looksToProve_6 12 rfl rfl)
theorem dX4_looksToProve_156 : decode cX4_looksToProve 156 = .ok (.ireturn, 1) := dk_172 (dk_at dksX4_looksToProve_6 13 rfl rfl)
abbrev cX4_putTile : ByteArray := prog_45_method_99_code
def yX4_putTile : MethodName := ⟨RX4, "putTile", "(III)I"⟩
def dkwX4_putTile_2 : List UInt8 := [28, 29, 182, 1, 108, 42, 42, 180, 0, 48, 182, 1, 93, 21, 4, 100, 172]
abbrev dktX4_putTile_2 : List UInt8 := dkwX4_putTile_2 ++ []
def dkwX4_putTile_1 : List UInt8 := [154, 0, 9, 42, 5, 182, 0, 254, 172, 42, 42, 180, 0, 48, 182, 1, 93, 54, 4, 42, 180, 0, 48, 27]
abbrev dktX4_putTile_1 : List UInt8 := dkwX4_putTile_1 ++ dktX4_putTile_2
def dkwX4_putTile_0 : List UInt8 := [42, 27, 28, 29, 182, 1, 150, 154, 0, 5, 3, 172, 42, 42, 180, 0, 48, 27, 28, 29, 182, 1, 54]
abbrev dktX4_putTile_0 : List UInt8 := dkwX4_putTile_0 ++ dktX4_putTile_1
theorem dksX4_putTile_0 : cX4_putTile.data.toList.drop 0 = dktX4_putTile_0 := by decide +kernel
theorem dksX4_putTile_1 : cX4_putTile.data.toList.drop 23 = dktX4_putTile_1 := dk_seg dksX4_putTile_0 23 rfl rfl
theorem dksX4_putTile_2 : cX4_putTile.data.toList.drop 47 = dktX4_putTile_2 := dk_seg dksX4_putTile_1 24 rfl rfl
theorem dX4_putTile_0 : decode cX4_putTile 0 = .ok (.aload_n 0, 1) := dk_42 (dk_at dksX4_putTile_0 0 rfl rfl)
theorem dX4_putTile_1 : decode cX4_putTile 1 = .ok (.iload_n 1, 1) := dk_27 (dk_at dksX4_putTile_0 1 rfl rfl)
theorem dX4_putTile_2 : decode cX4_putTile 2 = .ok (.iload_n 2, 1) := dk_28 (dk_at dksX4_putTile_0 2 rfl rfl)
theorem dX4_putTile_3 : decode cX4_putTile 3 = .ok (.iload_n 3, 1) := dk_29 (dk_at dksX4_putTile_0 3 rfl rfl)
theorem dX4_putTile_4 : decode cX4_putTile 4 = .ok (.invokevirtual 406, 3) := dk_182 1 150 (dk_at dksX4_putTile_0 4 rfl rfl)
theorem dX4_putTile_7 : decode cX4_putTile 7 = .ok (.ifCond .ne 5, 3) := dk_154 0 5 (dk_at dksX4_putTile_0 7 rfl rfl)
theorem dX4_putTile_10 : decode cX4_putTile 10 = .ok (.iconst 0, 1) := dk_3 (dk_at dksX4_putTile_0 10 rfl rfl)
theorem dX4_putTile_11 : decode cX4_putTile 11 = .ok (.ireturn, 1) := dk_172 (dk_at dksX4_putTile_0 11 rfl rfl)
theorem dX4_putTile_12 : decode cX4_putTile 12 = .ok (.aload_n 0, 1) := dk_42 (dk_at dksX4_putTile_0 12 rfl rfl)
theorem dX4_putTile_13 : decode cX4_putTile 13 = .ok (.aload_n 0, 1) := dk_42 (dk_at dksX4_putTile_0 13 rfl rfl)
theorem dX4_putTile_14 : decode cX4_putTile 14 = .ok (.getfield 48, 3) := dk_180 0 48 (dk_at dksX4_putTile_0 14 rfl rfl)
theorem dX4_putTile_17 : decode cX4_putTile 17 = .ok (.iload_n 1, 1) := dk_27 (dk_at dksX4_putTile_0 17 rfl rfl)
theorem dX4_putTile_18 : decode cX4_putTile 18 = .ok (.iload_n 2, 1) := dk_28 (dk_at dksX4_putTile_0 18 rfl rfl)
theorem dX4_putTile_19 : decode cX4_putTile 19 = .ok (.iload_n 3, 1) := dk_29 (dk_at dksX4_putTile_0 19 rfl rfl)
theorem dX4_putTile_20 : decode cX4_putTile 20 = .ok (.invokevirtual 310, 3) := dk_182 1 54 (dk_at dksX4_putTile_0 20 rfl rfl)
theorem dX4_putTile_23 : decode cX4_putTile 23 = .ok (.ifCond .ne 9, 3) := dk_154 0 9 (dk_at dksX4_putTile_1 0 rfl rfl)
theorem dX4_putTile_26 : decode cX4_putTile 26 = .ok (.aload_n 0, 1) := dk_42 (dk_at dksX4_putTile_1 3 rfl rfl)
theorem dX4_putTile_27 : decode cX4_putTile 27 = .ok (.iconst 2, 1) := dk_5 (dk_at dksX4_putTile_1 4 rfl rfl)
theorem dX4_putTile_28 : decode cX4_putTile 28 = .ok (.invokevirtual 254, 3) := dk_182 0 254 (dk_at dksX4_putTile_1 5 rfl rfl)
theorem dX4_putTile_31 : decode cX4_putTile 31 = .ok (.ireturn, 1) := dk_172 (dk_at dksX4_putTile_1 8 rfl rfl)
theorem dX4_putTile_32 : decode cX4_putTile 32 = .ok (.aload_n 0, 1) := dk_42 (dk_at dksX4_putTile_1 9 rfl rfl)
theorem dX4_putTile_33 : decode cX4_putTile 33 = .ok (.aload_n 0, 1) := dk_42 (dk_at dksX4_putTile_1 10 rfl rfl)
theorem dX4_putTile_34 : decode cX4_putTile 34 = .ok (.getfield 48, 3) := dk_180 0 48 (dk_at dksX4_putTile_1 11 rfl rfl)
theorem dX4_putTile_37 : decode cX4_putTile 37 = .ok (.invokevirtual 349, 3) := dk_182 1 93 (dk_at dksX4_putTile_1 14 rfl rfl)
theorem dX4_putTile_40 : decode cX4_putTile 40 = .ok (.istore 4, 2) := dk_54 4 (dk_at dksX4_putTile_1 17 rfl rfl)
theorem dX4_putTile_42 : decode cX4_putTile 42 = .ok (.aload_n 0, 1) := dk_42 (dk_at dksX4_putTile_1 19 rfl rfl)
theorem dX4_putTile_43 : decode cX4_putTile 43 = .ok (.getfield 48, 3) := dk_180 0 48 (dk_at dksX4_putTile_1 20 rfl rfl)
theorem dX4_putTile_46 : decode cX4_putTile 46 = .ok (.iload_n 1, 1) := dk_27 (dk_at dksX4_putTile_1 23 rfl rfl)
theorem dX4_putTile_47 : decode cX4_putTile 47 = .ok (.iload_n 2, 1) := dk_28 (dk_at dksX4_putTile_2 0 rfl rfl)
theorem dX4_putTile_48 : decode cX4_putTile 48 = .ok (.iload_n 3, 1) := dk_29 (dk_at dksX4_putTile_2 1 rfl rfl)
theorem dX4_putTile_49 : decode cX4_putTile 49 = .ok (.invokevirtual 364, 3) := dk_182 1 108 (dk_at dksX4_putTile_2 2 rfl rfl)
theorem dX4_putTile_52 : decode cX4_putTile 52 = .ok (.aload_n 0, 1) := dk_42 (dk_at dksX4_putTile_2 5 rfl rfl)
theorem dX4_putTile_53 : decode cX4_putTile 53 = .ok (.aload_n 0, 1) := dk_42 (dk_at dksX4_putTile_2 6 rfl rfl)
theorem dX4_putTile_54 : decode cX4_putTile 54 = .ok (.getfield 48, 3) := dk_180 0 48 (dk_at dksX4_putTile_2 7 rfl rfl)
theorem dX4_putTile_57 : decode cX4_putTile 57 = .ok (.invokevirtual 349, 3) := dk_182 1 93 (dk_at dksX4_putTile_2 10 rfl rfl)
theorem dX4_putTile_60 : decode cX4_putTile 60 = .ok (.iload 4, 2) := dk_21 4 (dk_at dksX4_putTile_2 13 rfl rfl)
theorem dX4_putTile_62 : decode cX4_putTile 62 = .ok (.isub, 1) := dk_100 (dk_at dksX4_putTile_2 15 rfl rfl)
theorem dX4_putTile_63 : decode cX4_putTile 63 = .ok (.ireturn, 1) := dk_172 (dk_at dksX4_putTile_2 16 rfl rfl)
abbrev cX4_takeTile : ByteArray := prog_45_method_100_code
def yX4_takeTile : MethodName := ⟨RX4, "takeTile", "(I)I"⟩
def dkwX4_takeTile_1 : List UInt8 := [182, 1, 122, 28, 42, 42, 180, 0, 48, 182, 1, 93, 100, 172]
abbrev dktX4_takeTile_1 : List UInt8 := dkwX4_takeTile_1 ++ []
def dkwX4_takeTile_0 : List UInt8 := [42, 27, 182, 1, 147, 154, 0, 5, 3, 172, 42, 42, 180, 0, 48, 182, 1, 93, 61, 42, 180, 0, 48, 27]
abbrev dktX4_takeTile_0 : List UInt8 := dkwX4_takeTile_0 ++ dktX4_takeTile_1
theorem dksX4_takeTile_0 : cX4_takeTile.data.toList.drop 0 = dktX4_takeTile_0 := by decide +kernel
theorem dksX4_takeTile_1 : cX4_takeTile.data.toList.drop 24 = dktX4_takeTile_1 := dk_seg dksX4_takeTile_0 24 rfl rfl
theorem dX4_takeTile_0 : decode cX4_takeTile 0 = .ok (.aload_n 0, 1) := dk_42 (dk_at dksX4_takeTile_0 0 rfl rfl)
theorem dX4_takeTile_1 : decode cX4_takeTile 1 = .ok (.iload_n 1, 1) := dk_27 (dk_at dksX4_takeTile_0 1 rfl rfl)
theorem dX4_takeTile_2 : decode cX4_takeTile 2 = .ok (.invokevirtual 403, 3) := dk_182 1 147 (dk_at dksX4_takeTile_0 2 rfl rfl)
theorem dX4_takeTile_5 : decode cX4_takeTile 5 = .ok (.ifCond .ne 5, 3) := dk_154 0 5 (dk_at dksX4_takeTile_0 5 rfl rfl)
theorem dX4_takeTile_8 : decode cX4_takeTile 8 = .ok (.iconst 0, 1) := dk_3 (dk_at dksX4_takeTile_0 8 rfl rfl)
theorem dX4_takeTile_9 : decode cX4_takeTile 9 = .ok (.ireturn, 1) := dk_172 (dk_at dksX4_takeTile_0 9 rfl rfl)
theorem dX4_takeTile_10 : decode cX4_takeTile 10 = .ok (.aload_n 0, 1) := dk_42 (dk_at dksX4_takeTile_0 10 rfl rfl)
theorem dX4_takeTile_11 : decode cX4_takeTile 11 = .ok (.aload_n 0, 1) := dk_42 (dk_at dksX4_takeTile_0 11 rfl rfl)
theorem dX4_takeTile_12 : decode cX4_takeTile 12 = .ok (.getfield 48, 3) := dk_180 0 48 (dk_at dksX4_takeTile_0 12 rfl rfl)
theorem dX4_takeTile_15 : decode cX4_takeTile 15 = .ok (.invokevirtual 349, 3) := dk_182 1 93 (dk_at dksX4_takeTile_0 15 rfl rfl)
theorem dX4_takeTile_18 : decode cX4_takeTile 18 = .ok (.istore_n 2, 1) := dk_61 (dk_at dksX4_takeTile_0 18 rfl rfl)
theorem dX4_takeTile_19 : decode cX4_takeTile 19 = .ok (.aload_n 0, 1) := dk_42 (dk_at dksX4_takeTile_0 19 rfl rfl)
theorem dX4_takeTile_20 : decode cX4_takeTile 20 = .ok (.getfield 48, 3) := dk_180 0 48 (dk_at dksX4_takeTile_0 20 rfl rfl)
theorem dX4_takeTile_23 : decode cX4_takeTile 23 = .ok (.iload_n 1, 1) := dk_27 (dk_at dksX4_takeTile_0 23 rfl rfl)
theorem dX4_takeTile_24 : decode cX4_takeTile 24 = .ok (.invokevirtual 378, 3) := dk_182 1 122 (dk_at dksX4_takeTile_1 0 rfl rfl)
theorem dX4_takeTile_27 : decode cX4_takeTile 27 = .ok (.iload_n 2, 1) := dk_28 (dk_at dksX4_takeTile_1 3 rfl rfl)
theorem dX4_takeTile_28 : decode cX4_takeTile 28 = .ok (.aload_n 0, 1) := dk_42 (dk_at dksX4_takeTile_1 4 rfl rfl)
theorem dX4_takeTile_29 : decode cX4_takeTile 29 = .ok (.aload_n 0, 1) := dk_42 (dk_at dksX4_takeTile_1 5 rfl rfl)
theorem dX4_takeTile_30 : decode cX4_takeTile 30 = .ok (.getfield 48, 3) := dk_180 0 48 (dk_at dksX4_takeTile_1 6 rfl rfl)
theorem dX4_takeTile_33 : decode cX4_takeTile 33 = .ok (.invokevirtual 349, 3) := dk_182 1 93 (dk_at dksX4_takeTile_1 9 rfl rfl)
theorem dX4_takeTile_36 : decode cX4_takeTile 36 = .ok (.isub, 1) := dk_100 (dk_at dksX4_takeTile_1 12 rfl rfl)
theorem dX4_takeTile_37 : decode cX4_takeTile 37 = .ok (.ireturn, 1) := dk_172 (dk_at dksX4_takeTile_1 13 rfl rfl)
abbrev cX4_fitTile : ByteArray := prog_45_method_101_code
def yX4_fitTile : MethodName := ⟨RX4, "fitTile", "(I)I"⟩
def dkwX4_fitTile_2 : List UInt8 := [172]
abbrev dktX4_fitTile_2 : List UInt8 := dkwX4_fitTile_2 ++ []
def dkwX4_fitTile_1 : List UInt8 := [27, 182, 1, 115, 153, 0, 15, 42, 180, 0, 48, 180, 1, 37, 27, 46, 167, 0, 8, 42, 5, 182, 0, 254]
abbrev dktX4_fitTile_1 : List UInt8 := dkwX4_fitTile_1 ++ dktX4_fitTile_2
def dkwX4_fitTile_0 : List UInt8 := [42, 3, 181, 0, 65, 42, 27, 182, 1, 144, 154, 0, 9, 42, 4, 182, 0, 254, 172, 42, 42, 180, 0, 48]
abbrev dktX4_fitTile_0 : List UInt8 := dkwX4_fitTile_0 ++ dktX4_fitTile_1
theorem dksX4_fitTile_0 : cX4_fitTile.data.toList.drop 0 = dktX4_fitTile_0 := by decide +kernel
theorem dksX4_fitTile_1 : cX4_fitTile.data.toList.drop 24 = dktX4_fitTile_1 := dk_seg dksX4_fitTile_0 24 rfl rfl
theorem dksX4_fitTile_2 : cX4_fitTile.data.toList.drop 48 = dktX4_fitTile_2 := dk_seg dksX4_fitTile_1 24 rfl rfl
theorem dX4_fitTile_0 : decode cX4_fitTile 0 = .ok (.aload_n 0, 1) := dk_42 (dk_at dksX4_fitTile_0 0 rfl rfl)
theorem dX4_fitTile_1 : decode cX4_fitTile 1 = .ok (.iconst 0, 1) := dk_3 (dk_at dksX4_fitTile_0 1 rfl rfl)
theorem dX4_fitTile_2 : decode cX4_fitTile 2 = .ok (.putfield 65, 3) := dk_181 0 65 (dk_at dksX4_fitTile_0 2 rfl rfl)
theorem dX4_fitTile_5 : decode cX4_fitTile 5 = .ok (.aload_n 0, 1) := dk_42 (dk_at dksX4_fitTile_0 5 rfl rfl)
theorem dX4_fitTile_6 : decode cX4_fitTile 6 = .ok (.iload_n 1, 1) := dk_27 (dk_at dksX4_fitTile_0 6 rfl rfl)
theorem dX4_fitTile_7 : decode cX4_fitTile 7 = .ok (.invokevirtual 400, 3) := dk_182 1 144 (dk_at dksX4_fitTile_0 7 rfl rfl)
theorem dX4_fitTile_10 : decode cX4_fitTile 10 = .ok (.ifCond .ne 9, 3) := dk_154 0 9 (dk_at dksX4_fitTile_0 10 rfl rfl)
theorem dX4_fitTile_13 : decode cX4_fitTile 13 = .ok (.aload_n 0, 1) := dk_42 (dk_at dksX4_fitTile_0 13 rfl rfl)
theorem dX4_fitTile_14 : decode cX4_fitTile 14 = .ok (.iconst 1, 1) := dk_4 (dk_at dksX4_fitTile_0 14 rfl rfl)
theorem dX4_fitTile_15 : decode cX4_fitTile 15 = .ok (.invokevirtual 254, 3) := dk_182 0 254 (dk_at dksX4_fitTile_0 15 rfl rfl)
theorem dX4_fitTile_18 : decode cX4_fitTile 18 = .ok (.ireturn, 1) := dk_172 (dk_at dksX4_fitTile_0 18 rfl rfl)
theorem dX4_fitTile_19 : decode cX4_fitTile 19 = .ok (.aload_n 0, 1) := dk_42 (dk_at dksX4_fitTile_0 19 rfl rfl)
theorem dX4_fitTile_20 : decode cX4_fitTile 20 = .ok (.aload_n 0, 1) := dk_42 (dk_at dksX4_fitTile_0 20 rfl rfl)
theorem dX4_fitTile_21 : decode cX4_fitTile 21 = .ok (.getfield 48, 3) := dk_180 0 48 (dk_at dksX4_fitTile_0 21 rfl rfl)
theorem dX4_fitTile_24 : decode cX4_fitTile 24 = .ok (.iload_n 1, 1) := dk_27 (dk_at dksX4_fitTile_1 0 rfl rfl)
theorem dX4_fitTile_25 : decode cX4_fitTile 25 = .ok (.invokevirtual 371, 3) := dk_182 1 115 (dk_at dksX4_fitTile_1 1 rfl rfl)
theorem dX4_fitTile_28 : decode cX4_fitTile 28 = .ok (.ifCond .eq 15, 3) := dk_153 0 15 (dk_at dksX4_fitTile_1 4 rfl rfl)
theorem dX4_fitTile_31 : decode cX4_fitTile 31 = .ok (.aload_n 0, 1) := dk_42 (dk_at dksX4_fitTile_1 7 rfl rfl)
theorem dX4_fitTile_32 : decode cX4_fitTile 32 = .ok (.getfield 48, 3) := dk_180 0 48 (dk_at dksX4_fitTile_1 8 rfl rfl)
theorem dX4_fitTile_35 : decode cX4_fitTile 35 = .ok (.getfield 293, 3) := dk_180 1 37 (dk_at dksX4_fitTile_1 11 rfl rfl)
theorem dX4_fitTile_38 : decode cX4_fitTile 38 = .ok (.iload_n 1, 1) := dk_27 (dk_at dksX4_fitTile_1 14 rfl rfl)
theorem dX4_fitTile_39 : decode cX4_fitTile 39 = .ok (.iaload, 1) := dk_46 (dk_at dksX4_fitTile_1 15 rfl rfl)
theorem dX4_fitTile_40 : decode cX4_fitTile 40 = .ok (.goto 8, 3) := dk_167 0 8 (dk_at dksX4_fitTile_1 16 rfl rfl)
theorem dX4_fitTile_43 : decode cX4_fitTile 43 = .ok (.aload_n 0, 1) := dk_42 (dk_at dksX4_fitTile_1 19 rfl rfl)
theorem dX4_fitTile_44 : decode cX4_fitTile 44 = .ok (.iconst 2, 1) := dk_5 (dk_at dksX4_fitTile_1 20 rfl rfl)
theorem dX4_fitTile_45 : decode cX4_fitTile 45 = .ok (.invokevirtual 254, 3) := dk_182 0 254 (dk_at dksX4_fitTile_1 21 rfl rfl)
theorem dX4_fitTile_48 : decode cX4_fitTile 48 = .ok (.ireturn, 1) := dk_172 (dk_at dksX4_fitTile_2 0 rfl rfl)
abbrev cX4_isFitted : ByteArray := prog_45_method_65_code
def yX4_isFitted : MethodName := ⟨RX4, "isFitted", "(LRingDominoModel$State;I)Z"⟩
def dkwX4_isFitted_1 : List UInt8 := [182, 1, 108, 4, 172]
abbrev dktX4_isFitted_1 : List UInt8 := dkwX4_isFitted_1 ++ []
def dkwX4_isFitted_0 : List UInt8 := [42, 43, 28, 182, 1, 99, 62, 29, 2, 160, 0, 5, 3, 172, 43, 28, 29, 16, 6, 108, 29, 16, 6, 112]
abbrev dktX4_isFitted_0 : List UInt8 := dkwX4_isFitted_0 ++ dktX4_isFitted_1
theorem dksX4_isFitted_0 : cX4_isFitted.data.toList.drop 0 = dktX4_isFitted_0 := by decide +kernel
theorem dksX4_isFitted_1 : cX4_isFitted.data.toList.drop 24 = dktX4_isFitted_1 := dk_seg dksX4_isFitted_0 24 rfl rfl
theorem dX4_isFitted_0 : decode cX4_isFitted 0 = .ok (.aload_n 0, 1) := dk_42 (dk_at dksX4_isFitted_0 0 rfl rfl)
theorem dX4_isFitted_1 : decode cX4_isFitted 1 = .ok (.aload_n 1, 1) := dk_43 (dk_at dksX4_isFitted_0 1 rfl rfl)
theorem dX4_isFitted_2 : decode cX4_isFitted 2 = .ok (.iload_n 2, 1) := dk_28 (dk_at dksX4_isFitted_0 2 rfl rfl)
theorem dX4_isFitted_3 : decode cX4_isFitted 3 = .ok (.invokevirtual 355, 3) := dk_182 1 99 (dk_at dksX4_isFitted_0 3 rfl rfl)
theorem dX4_isFitted_6 : decode cX4_isFitted 6 = .ok (.istore_n 3, 1) := dk_62 (dk_at dksX4_isFitted_0 6 rfl rfl)
theorem dX4_isFitted_7 : decode cX4_isFitted 7 = .ok (.iload_n 3, 1) := dk_29 (dk_at dksX4_isFitted_0 7 rfl rfl)
theorem dX4_isFitted_8 : decode cX4_isFitted 8 = .ok (.iconst (-1), 1) := dk_2 (dk_at dksX4_isFitted_0 8 rfl rfl)
theorem dX4_isFitted_9 : decode cX4_isFitted 9 = .ok (.if_icmp .ne 5, 3) := dk_160 0 5 (dk_at dksX4_isFitted_0 9 rfl rfl)
theorem dX4_isFitted_12 : decode cX4_isFitted 12 = .ok (.iconst 0, 1) := dk_3 (dk_at dksX4_isFitted_0 12 rfl rfl)
theorem dX4_isFitted_13 : decode cX4_isFitted 13 = .ok (.ireturn, 1) := dk_172 (dk_at dksX4_isFitted_0 13 rfl rfl)
theorem dX4_isFitted_14 : decode cX4_isFitted 14 = .ok (.aload_n 1, 1) := dk_43 (dk_at dksX4_isFitted_0 14 rfl rfl)
theorem dX4_isFitted_15 : decode cX4_isFitted 15 = .ok (.iload_n 2, 1) := dk_28 (dk_at dksX4_isFitted_0 15 rfl rfl)
theorem dX4_isFitted_16 : decode cX4_isFitted 16 = .ok (.iload_n 3, 1) := dk_29 (dk_at dksX4_isFitted_0 16 rfl rfl)
theorem dX4_isFitted_17 : decode cX4_isFitted 17 = .ok (.bipush 6, 2) := dk_16 6 (dk_at dksX4_isFitted_0 17 rfl rfl)
theorem dX4_isFitted_19 : decode cX4_isFitted 19 = .ok (.idiv, 1) := dk_108 (dk_at dksX4_isFitted_0 19 rfl rfl)
theorem dX4_isFitted_20 : decode cX4_isFitted 20 = .ok (.iload_n 3, 1) := dk_29 (dk_at dksX4_isFitted_0 20 rfl rfl)
theorem dX4_isFitted_21 : decode cX4_isFitted 21 = .ok (.bipush 6, 2) := dk_16 6 (dk_at dksX4_isFitted_0 21 rfl rfl)
theorem dX4_isFitted_23 : decode cX4_isFitted 23 = .ok (.irem, 1) := dk_112 (dk_at dksX4_isFitted_0 23 rfl rfl)
theorem dX4_isFitted_24 : decode cX4_isFitted 24 = .ok (.invokevirtual 364, 3) := dk_182 1 108 (dk_at dksX4_isFitted_1 0 rfl rfl)
theorem dX4_isFitted_27 : decode cX4_isFitted 27 = .ok (.iconst 1, 1) := dk_4 (dk_at dksX4_isFitted_1 3 rfl rfl)
theorem dX4_isFitted_28 : decode cX4_isFitted 28 = .ok (.ireturn, 1) := dk_172 (dk_at dksX4_isFitted_1 4 rfl rfl)
abbrev cX4_playRounds : ByteArray := prog_45_method_102_code
def yX4_playRounds : MethodName := ⟨RX4, "playRounds", "(I)I"⟩
def dkwX4_playRounds_2 : List UInt8 := [172]
abbrev dktX4_playRounds_2 : List UInt8 := dkwX4_playRounds_2 ++ []
def dkwX4_playRounds_1 : List UInt8 := [62, 29, 27, 162, 0, 20, 28, 42, 42, 180, 0, 48, 182, 1, 156, 96, 61, 132, 3, 1, 167, 255, 237, 28]
abbrev dktX4_playRounds_1 : List UInt8 := dkwX4_playRounds_1 ++ dktX4_playRounds_2
def dkwX4_playRounds_0 : List UInt8 := [42, 3, 181, 0, 65, 27, 4, 16, 20, 184, 0, 68, 154, 0, 9, 42, 4, 182, 0, 254, 172, 3, 61, 3]
abbrev dktX4_playRounds_0 : List UInt8 := dkwX4_playRounds_0 ++ dktX4_playRounds_1
theorem dksX4_playRounds_0 : cX4_playRounds.data.toList.drop 0 = dktX4_playRounds_0 := by decide +kernel
theorem dksX4_playRounds_1 : cX4_playRounds.data.toList.drop 24 = dktX4_playRounds_1 := dk_seg dksX4_playRounds_0 24 rfl rfl
theorem dksX4_playRounds_2 : cX4_playRounds.data.toList.drop 48 = dktX4_playRounds_2 := dk_seg dksX4_playRounds_1 24 rfl rfl
theorem dX4_playRounds_0 : decode cX4_playRounds 0 = .ok (.aload_n 0, 1) := dk_42 (dk_at dksX4_playRounds_0 0 rfl rfl)
theorem dX4_playRounds_1 : decode cX4_playRounds 1 = .ok (.iconst 0, 1) := dk_3 (dk_at dksX4_playRounds_0 1 rfl rfl)
theorem dX4_playRounds_2 : decode cX4_playRounds 2 = .ok (.putfield 65, 3) := dk_181 0 65 (dk_at dksX4_playRounds_0 2 rfl rfl)
theorem dX4_playRounds_5 : decode cX4_playRounds 5 = .ok (.iload_n 1, 1) := dk_27 (dk_at dksX4_playRounds_0 5 rfl rfl)
theorem dX4_playRounds_6 : decode cX4_playRounds 6 = .ok (.iconst 1, 1) := dk_4 (dk_at dksX4_playRounds_0 6 rfl rfl)
theorem dX4_playRounds_7 : decode cX4_playRounds 7 = .ok (.bipush 20, 2) := dk_16 20 (dk_at dksX4_playRounds_0 7 rfl rfl)
theorem dX4_playRounds_9 : decode cX4_playRounds 9 = .ok (.invokestatic 68, 3) := dk_184 0 68 (dk_at dksX4_playRounds_0 9 rfl rfl)
theorem dX4_playRounds_12 : decode cX4_playRounds 12 = .ok (.ifCond .ne 9, 3) := dk_154 0 9 (dk_at dksX4_playRounds_0 12 rfl rfl)
theorem dX4_playRounds_15 : decode cX4_playRounds 15 = .ok (.aload_n 0, 1) := dk_42 (dk_at dksX4_playRounds_0 15 rfl rfl)
theorem dX4_playRounds_16 : decode cX4_playRounds 16 = .ok (.iconst 1, 1) := dk_4 (dk_at dksX4_playRounds_0 16 rfl rfl)
theorem dX4_playRounds_17 : decode cX4_playRounds 17 = .ok (.invokevirtual 254, 3) := dk_182 0 254 (dk_at dksX4_playRounds_0 17 rfl rfl)
theorem dX4_playRounds_20 : decode cX4_playRounds 20 = .ok (.ireturn, 1) := dk_172 (dk_at dksX4_playRounds_0 20 rfl rfl)
theorem dX4_playRounds_21 : decode cX4_playRounds 21 = .ok (.iconst 0, 1) := dk_3 (dk_at dksX4_playRounds_0 21 rfl rfl)
theorem dX4_playRounds_22 : decode cX4_playRounds 22 = .ok (.istore_n 2, 1) := dk_61 (dk_at dksX4_playRounds_0 22 rfl rfl)
theorem dX4_playRounds_23 : decode cX4_playRounds 23 = .ok (.iconst 0, 1) := dk_3 (dk_at dksX4_playRounds_0 23 rfl rfl)
theorem dX4_playRounds_24 : decode cX4_playRounds 24 = .ok (.istore_n 3, 1) := dk_62 (dk_at dksX4_playRounds_1 0 rfl rfl)
theorem dX4_playRounds_25 : decode cX4_playRounds 25 = .ok (.iload_n 3, 1) := dk_29 (dk_at dksX4_playRounds_1 1 rfl rfl)
theorem dX4_playRounds_26 : decode cX4_playRounds 26 = .ok (.iload_n 1, 1) := dk_27 (dk_at dksX4_playRounds_1 2 rfl rfl)
theorem dX4_playRounds_27 : decode cX4_playRounds 27 = .ok (.if_icmp .ge 20, 3) := dk_162 0 20 (dk_at dksX4_playRounds_1 3 rfl rfl)
theorem dX4_playRounds_30 : decode cX4_playRounds 30 = .ok (.iload_n 2, 1) := dk_28 (dk_at dksX4_playRounds_1 6 rfl rfl)
theorem dX4_playRounds_31 : decode cX4_playRounds 31 = .ok (.aload_n 0, 1) := dk_42 (dk_at dksX4_playRounds_1 7 rfl rfl)
theorem dX4_playRounds_32 : decode cX4_playRounds 32 = .ok (.aload_n 0, 1) := dk_42 (dk_at dksX4_playRounds_1 8 rfl rfl)
theorem dX4_playRounds_33 : decode cX4_playRounds 33 = .ok (.getfield 48, 3) := dk_180 0 48 (dk_at dksX4_playRounds_1 9 rfl rfl)
theorem dX4_playRounds_36 : decode cX4_playRounds 36 = .ok (.invokevirtual 412, 3) := dk_182 1 156 (dk_at dksX4_playRounds_1 12 rfl rfl)
theorem dX4_playRounds_39 : decode cX4_playRounds 39 = .ok (.iadd, 1) := dk_96 (dk_at dksX4_playRounds_1 15 rfl rfl)
theorem dX4_playRounds_40 : decode cX4_playRounds 40 = .ok (.istore_n 2, 1) := dk_61 (dk_at dksX4_playRounds_1 16 rfl rfl)
theorem dX4_playRounds_41 : decode cX4_playRounds 41 = .ok (.iinc 3 1, 3) := dk_132 3 1 (dk_at dksX4_playRounds_1 17 rfl rfl)
theorem dX4_playRounds_44 : decode cX4_playRounds 44 = .ok (.goto (-19), 3) := dk_167 255 237 (dk_at dksX4_playRounds_1 20 rfl rfl)
theorem dX4_playRounds_47 : decode cX4_playRounds 47 = .ok (.iload_n 2, 1) := dk_28 (dk_at dksX4_playRounds_1 23 rfl rfl)
theorem dX4_playRounds_48 : decode cX4_playRounds 48 = .ok (.ireturn, 1) := dk_172 (dk_at dksX4_playRounds_2 0 rfl rfl)
abbrev cX4_play : ByteArray := prog_45_method_67_code
def yX4_play : MethodName := ⟨RX4, "play", "(LRingDominoModel$State;)I"⟩
def dkwX4_play_2 : List UInt8 := [181, 1, 87, 28, 172]
abbrev dktX4_play_2 : List UInt8 := dkwX4_play_2 ++ []
def dkwX4_play_1 : List UInt8 := [153, 0, 7, 4, 167, 0, 4, 3, 96, 61, 132, 3, 1, 167, 255, 225, 43, 89, 180, 1, 87, 4, 96]
abbrev dktX4_play_1 : List UInt8 := dkwX4_play_1 ++ dktX4_play_2
def dkwX4_play_0 : List UInt8 := [3, 61, 3, 62, 29, 42, 180, 0, 35, 180, 0, 220, 162, 0, 26, 28, 42, 43, 29, 182, 1, 123]
abbrev dktX4_play_0 : List UInt8 := dkwX4_play_0 ++ dktX4_play_1
theorem dksX4_play_0 : cX4_play.data.toList.drop 0 = dktX4_play_0 := by decide +kernel
theorem dksX4_play_1 : cX4_play.data.toList.drop 22 = dktX4_play_1 := dk_seg dksX4_play_0 22 rfl rfl
theorem dksX4_play_2 : cX4_play.data.toList.drop 45 = dktX4_play_2 := dk_seg dksX4_play_1 23 rfl rfl
theorem dX4_play_0 : decode cX4_play 0 = .ok (.iconst 0, 1) := dk_3 (dk_at dksX4_play_0 0 rfl rfl)
theorem dX4_play_1 : decode cX4_play 1 = .ok (.istore_n 2, 1) := dk_61 (dk_at dksX4_play_0 1 rfl rfl)
theorem dX4_play_2 : decode cX4_play 2 = .ok (.iconst 0, 1) := dk_3 (dk_at dksX4_play_0 2 rfl rfl)
theorem dX4_play_3 : decode cX4_play 3 = .ok (.istore_n 3, 1) := dk_62 (dk_at dksX4_play_0 3 rfl rfl)
theorem dX4_play_4 : decode cX4_play 4 = .ok (.iload_n 3, 1) := dk_29 (dk_at dksX4_play_0 4 rfl rfl)
theorem dX4_play_5 : decode cX4_play 5 = .ok (.aload_n 0, 1) := dk_42 (dk_at dksX4_play_0 5 rfl rfl)
theorem dX4_play_6 : decode cX4_play 6 = .ok (.getfield 35, 3) := dk_180 0 35 (dk_at dksX4_play_0 6 rfl rfl)
theorem dX4_play_9 : decode cX4_play 9 = .ok (.getfield 220, 3) := dk_180 0 220 (dk_at dksX4_play_0 9 rfl rfl)
theorem dX4_play_12 : decode cX4_play 12 = .ok (.if_icmp .ge 26, 3) := dk_162 0 26 (dk_at dksX4_play_0 12 rfl rfl)
theorem dX4_play_15 : decode cX4_play 15 = .ok (.iload_n 2, 1) := dk_28 (dk_at dksX4_play_0 15 rfl rfl)
theorem dX4_play_16 : decode cX4_play 16 = .ok (.aload_n 0, 1) := dk_42 (dk_at dksX4_play_0 16 rfl rfl)
theorem dX4_play_17 : decode cX4_play 17 = .ok (.aload_n 1, 1) := dk_43 (dk_at dksX4_play_0 17 rfl rfl)
theorem dX4_play_18 : decode cX4_play 18 = .ok (.iload_n 3, 1) := dk_29 (dk_at dksX4_play_0 18 rfl rfl)
theorem dX4_play_19 : decode cX4_play 19 = .ok (.invokevirtual 379, 3) := dk_182 1 123 (dk_at dksX4_play_0 19 rfl rfl)
theorem dX4_play_22 : decode cX4_play 22 = .ok (.ifCond .eq 7, 3) := dk_153 0 7 (dk_at dksX4_play_1 0 rfl rfl)
theorem dX4_play_25 : decode cX4_play 25 = .ok (.iconst 1, 1) := dk_4 (dk_at dksX4_play_1 3 rfl rfl)
theorem dX4_play_26 : decode cX4_play 26 = .ok (.goto 4, 3) := dk_167 0 4 (dk_at dksX4_play_1 4 rfl rfl)
theorem dX4_play_29 : decode cX4_play 29 = .ok (.iconst 0, 1) := dk_3 (dk_at dksX4_play_1 7 rfl rfl)
theorem dX4_play_30 : decode cX4_play 30 = .ok (.iadd, 1) := dk_96 (dk_at dksX4_play_1 8 rfl rfl)
theorem dX4_play_31 : decode cX4_play 31 = .ok (.istore_n 2, 1) := dk_61 (dk_at dksX4_play_1 9 rfl rfl)
theorem dX4_play_32 : decode cX4_play 32 = .ok (.iinc 3 1, 3) := dk_132 3 1 (dk_at dksX4_play_1 10 rfl rfl)
theorem dX4_play_35 : decode cX4_play 35 = .ok (.goto (-31), 3) := dk_167 255 225 (dk_at dksX4_play_1 13 rfl rfl)
theorem dX4_play_38 : decode cX4_play 38 = .ok (.aload_n 1, 1) := dk_43 (dk_at dksX4_play_1 16 rfl rfl)
theorem dX4_play_39 : decode cX4_play 39 = .ok (.dup, 1) := dk_89 (dk_at dksX4_play_1 17 rfl rfl)
theorem dX4_play_40 : decode cX4_play 40 = .ok (.getfield 343, 3) := dk_180 1 87 (dk_at dksX4_play_1 18 rfl rfl)
theorem dX4_play_43 : decode cX4_play 43 = .ok (.iconst 1, 1) := dk_4 (dk_at dksX4_play_1 21 rfl rfl)
theorem dX4_play_44 : decode cX4_play 44 = .ok (.iadd, 1) := dk_96 (dk_at dksX4_play_1 22 rfl rfl)
theorem dX4_play_45 : decode cX4_play 45 = .ok (.putfield 343, 3) := dk_181 1 87 (dk_at dksX4_play_2 0 rfl rfl)
theorem dX4_play_48 : decode cX4_play 48 = .ok (.iload_n 2, 1) := dk_28 (dk_at dksX4_play_2 3 rfl rfl)
theorem dX4_play_49 : decode cX4_play 49 = .ok (.ireturn, 1) := dk_172 (dk_at dksX4_play_2 4 rfl rfl)
abbrev cX4_carryOut : ByteArray := prog_45_method_66_code
def yX4_carryOut : MethodName := ⟨RX4, "carryOut", "(LRingDominoModel$State;I)Z"⟩
def dkwX4_carryOut_9 : List UInt8 := [29, 182, 1, 122, 4, 172]
abbrev dktX4_carryOut_9 : List UInt8 := dkwX4_carryOut_9 ++ []
def dkwX4_carryOut_8 : List UInt8 := [6, 28, 104, 5, 96, 46, 46, 182, 1, 118, 172, 43, 180, 1, 37, 29, 46, 2, 160, 0, 5, 3, 172, 43]
abbrev dktX4_carryOut_8 : List UInt8 := dkwX4_carryOut_8 ++ dktX4_carryOut_9
def dkwX4_carryOut_7 : List UInt8 := [180, 0, 35, 180, 0, 232, 6, 28, 104, 4, 96, 46, 46, 42, 180, 0, 42, 42, 180, 0, 35, 180, 0, 232]
abbrev dktX4_carryOut_7 : List UInt8 := dkwX4_carryOut_7 ++ dktX4_carryOut_8
def dkwX4_carryOut_6 : List UInt8 := [43, 29, 42, 180, 0, 42, 42, 180, 0, 35, 180, 0, 232, 6, 28, 104, 46, 46, 42, 180, 0, 42, 42]
abbrev dktX4_carryOut_6 : List UInt8 := dkwX4_carryOut_6 ++ dktX4_carryOut_7
def dkwX4_carryOut_5 : List UInt8 := [5, 160, 0, 10, 42, 43, 29, 182, 1, 115, 172, 42, 180, 0, 35, 180, 0, 226, 28, 46, 154, 0, 62, 42]
abbrev dktX4_carryOut_5 : List UInt8 := dkwX4_carryOut_5 ++ dktX4_carryOut_6
def dkwX4_carryOut_4 : List UInt8 := [154, 0, 5, 3, 172, 42, 180, 0, 35, 180, 0, 229, 28, 46, 62, 42, 180, 0, 35, 180, 0, 226, 28, 46]
abbrev dktX4_carryOut_4 : List UInt8 := dkwX4_carryOut_4 ++ dktX4_carryOut_5
def dkwX4_carryOut_3 : List UInt8 := [180, 0, 235, 28, 46, 2, 159, 0, 22, 42, 180, 0, 42, 42, 180, 0, 35, 180, 0, 235, 28, 46, 46]
abbrev dktX4_carryOut_3 : List UInt8 := dkwX4_carryOut_3 ++ dktX4_carryOut_4
def dkwX4_carryOut_2 : List UInt8 := [42, 180, 0, 35, 180, 0, 147, 29, 46, 182, 1, 112, 79, 132, 3, 1, 167, 255, 202, 42, 180, 0, 35]
abbrev dktX4_carryOut_2 : List UInt8 := dkwX4_carryOut_2 ++ dktX4_carryOut_3
def dkwX4_carryOut_1 : List UInt8 := [180, 0, 42, 29, 42, 43, 42, 180, 0, 35, 180, 0, 141, 29, 46, 42, 180, 0, 35, 180, 0, 144, 29, 46]
abbrev dktX4_carryOut_1 : List UInt8 := dkwX4_carryOut_1 ++ dktX4_carryOut_2
def dkwX4_carryOut_0 : List UInt8 := [42, 180, 0, 35, 180, 0, 223, 28, 46, 62, 29, 42, 180, 0, 35, 180, 0, 237, 28, 46, 162, 0, 47, 42]
abbrev dktX4_carryOut_0 : List UInt8 := dkwX4_carryOut_0 ++ dktX4_carryOut_1
theorem dksX4_carryOut_0 : cX4_carryOut.data.toList.drop 0 = dktX4_carryOut_0 := by decide +kernel
theorem dksX4_carryOut_1 : cX4_carryOut.data.toList.drop 24 = dktX4_carryOut_1 := dk_seg dksX4_carryOut_0 24 rfl rfl
theorem dksX4_carryOut_2 : cX4_carryOut.data.toList.drop 48 = dktX4_carryOut_2 := dk_seg dksX4_carryOut_1 24 rfl rfl
theorem dksX4_carryOut_3 : cX4_carryOut.data.toList.drop 71 = dktX4_carryOut_3 := dk_seg dksX4_carryOut_2 23 rfl rfl
theorem dksX4_carryOut_4 : cX4_carryOut.data.toList.drop 94 = dktX4_carryOut_4 := dk_seg dksX4_carryOut_3 23 rfl rfl
theorem dksX4_carryOut_5 : cX4_carryOut.data.toList.drop 118 = dktX4_carryOut_5 := dk_seg dksX4_carryOut_4 24 rfl rfl
theorem dksX4_carryOut_6 : cX4_carryOut.data.toList.drop 142 = dktX4_carryOut_6 := dk_seg dksX4_carryOut_5 24 rfl rfl
theorem dksX4_carryOut_7 : cX4_carryOut.data.toList.drop 165 = dktX4_carryOut_7 := dk_seg dksX4_carryOut_6 23 rfl rfl
theorem dksX4_carryOut_8 : cX4_carryOut.data.toList.drop 189 = dktX4_carryOut_8 := dk_seg dksX4_carryOut_7 24 rfl rfl
theorem dksX4_carryOut_9 : cX4_carryOut.data.toList.drop 213 = dktX4_carryOut_9 := dk_seg dksX4_carryOut_8 24 rfl rfl
theorem dX4_carryOut_0 : decode cX4_carryOut 0 = .ok (.aload_n 0, 1) := dk_42 (dk_at dksX4_carryOut_0 0 rfl rfl)
theorem dX4_carryOut_1 : decode cX4_carryOut 1 = .ok (.getfield 35, 3) := dk_180 0 35 (dk_at dksX4_carryOut_0 1 rfl rfl)
theorem dX4_carryOut_4 : decode cX4_carryOut 4 = .ok (.getfield 223, 3) := dk_180 0 223 (dk_at dksX4_carryOut_0 4 rfl rfl)
theorem dX4_carryOut_7 : decode cX4_carryOut 7 = .ok (.iload_n 2, 1) := dk_28 (dk_at dksX4_carryOut_0 7 rfl rfl)
theorem dX4_carryOut_8 : decode cX4_carryOut 8 = .ok (.iaload, 1) := dk_46 (dk_at dksX4_carryOut_0 8 rfl rfl)
theorem dX4_carryOut_9 : decode cX4_carryOut 9 = .ok (.istore_n 3, 1) := dk_62 (dk_at dksX4_carryOut_0 9 rfl rfl)
theorem dX4_carryOut_10 : decode cX4_carryOut 10 = .ok (.iload_n 3, 1) := dk_29 (dk_at dksX4_carryOut_0 10 rfl rfl)
theorem dX4_carryOut_11 : decode cX4_carryOut 11 = .ok (.aload_n 0, 1) := dk_42 (dk_at dksX4_carryOut_0 11 rfl rfl)
theorem dX4_carryOut_12 : decode cX4_carryOut 12 = .ok (.getfield 35, 3) := dk_180 0 35 (dk_at dksX4_carryOut_0 12 rfl rfl)
theorem dX4_carryOut_15 : decode cX4_carryOut 15 = .ok (.getfield 237, 3) := dk_180 0 237 (dk_at dksX4_carryOut_0 15 rfl rfl)
theorem dX4_carryOut_18 : decode cX4_carryOut 18 = .ok (.iload_n 2, 1) := dk_28 (dk_at dksX4_carryOut_0 18 rfl rfl)
theorem dX4_carryOut_19 : decode cX4_carryOut 19 = .ok (.iaload, 1) := dk_46 (dk_at dksX4_carryOut_0 19 rfl rfl)
theorem dX4_carryOut_20 : decode cX4_carryOut 20 = .ok (.if_icmp .ge 47, 3) := dk_162 0 47 (dk_at dksX4_carryOut_0 20 rfl rfl)
theorem dX4_carryOut_23 : decode cX4_carryOut 23 = .ok (.aload_n 0, 1) := dk_42 (dk_at dksX4_carryOut_0 23 rfl rfl)
theorem dX4_carryOut_24 : decode cX4_carryOut 24 = .ok (.getfield 42, 3) := dk_180 0 42 (dk_at dksX4_carryOut_1 0 rfl rfl)
theorem dX4_carryOut_27 : decode cX4_carryOut 27 = .ok (.iload_n 3, 1) := dk_29 (dk_at dksX4_carryOut_1 3 rfl rfl)
theorem dX4_carryOut_28 : decode cX4_carryOut 28 = .ok (.aload_n 0, 1) := dk_42 (dk_at dksX4_carryOut_1 4 rfl rfl)
theorem dX4_carryOut_29 : decode cX4_carryOut 29 = .ok (.aload_n 1, 1) := dk_43 (dk_at dksX4_carryOut_1 5 rfl rfl)
theorem dX4_carryOut_30 : decode cX4_carryOut 30 = .ok (.aload_n 0, 1) := dk_42 (dk_at dksX4_carryOut_1 6 rfl rfl)
theorem dX4_carryOut_31 : decode cX4_carryOut 31 = .ok (.getfield 35, 3) := dk_180 0 35 (dk_at dksX4_carryOut_1 7 rfl rfl)
theorem dX4_carryOut_34 : decode cX4_carryOut 34 = .ok (.getfield 141, 3) := dk_180 0 141 (dk_at dksX4_carryOut_1 10 rfl rfl)
theorem dX4_carryOut_37 : decode cX4_carryOut 37 = .ok (.iload_n 3, 1) := dk_29 (dk_at dksX4_carryOut_1 13 rfl rfl)
theorem dX4_carryOut_38 : decode cX4_carryOut 38 = .ok (.iaload, 1) := dk_46 (dk_at dksX4_carryOut_1 14 rfl rfl)
theorem dX4_carryOut_39 : decode cX4_carryOut 39 = .ok (.aload_n 0, 1) := dk_42 (dk_at dksX4_carryOut_1 15 rfl rfl)
theorem dX4_carryOut_40 : decode cX4_carryOut 40 = .ok (.getfield 35, 3) := dk_180 0 35 (dk_at dksX4_carryOut_1 16 rfl rfl)
theorem dX4_carryOut_43 : decode cX4_carryOut 43 = .ok (.getfield 144, 3) := dk_180 0 144 (dk_at dksX4_carryOut_1 19 rfl rfl)
theorem dX4_carryOut_46 : decode cX4_carryOut 46 = .ok (.iload_n 3, 1) := dk_29 (dk_at dksX4_carryOut_1 22 rfl rfl)
theorem dX4_carryOut_47 : decode cX4_carryOut 47 = .ok (.iaload, 1) := dk_46 (dk_at dksX4_carryOut_1 23 rfl rfl)
theorem dX4_carryOut_48 : decode cX4_carryOut 48 = .ok (.aload_n 0, 1) := dk_42 (dk_at dksX4_carryOut_2 0 rfl rfl)
theorem dX4_carryOut_49 : decode cX4_carryOut 49 = .ok (.getfield 35, 3) := dk_180 0 35 (dk_at dksX4_carryOut_2 1 rfl rfl)
theorem dX4_carryOut_52 : decode cX4_carryOut 52 = .ok (.getfield 147, 3) := dk_180 0 147 (dk_at dksX4_carryOut_2 4 rfl rfl)
theorem dX4_carryOut_55 : decode cX4_carryOut 55 = .ok (.iload_n 3, 1) := dk_29 (dk_at dksX4_carryOut_2 7 rfl rfl)
theorem dX4_carryOut_56 : decode cX4_carryOut 56 = .ok (.iaload, 1) := dk_46 (dk_at dksX4_carryOut_2 8 rfl rfl)
theorem dX4_carryOut_57 : decode cX4_carryOut 57 = .ok (.invokevirtual 368, 3) := dk_182 1 112 (dk_at dksX4_carryOut_2 9 rfl rfl)
theorem dX4_carryOut_60 : decode cX4_carryOut 60 = .ok (.iastore, 1) := dk_79 (dk_at dksX4_carryOut_2 12 rfl rfl)
theorem dX4_carryOut_61 : decode cX4_carryOut 61 = .ok (.iinc 3 1, 3) := dk_132 3 1 (dk_at dksX4_carryOut_2 13 rfl rfl)
theorem dX4_carryOut_64 : decode cX4_carryOut 64 = .ok (.goto (-54), 3) := dk_167 255 202 (dk_at dksX4_carryOut_2 16 rfl rfl)
theorem dX4_carryOut_67 : decode cX4_carryOut 67 = .ok (.aload_n 0, 1) := dk_42 (dk_at dksX4_carryOut_2 19 rfl rfl)
theorem dX4_carryOut_68 : decode cX4_carryOut 68 = .ok (.getfield 35, 3) := dk_180 0 35 (dk_at dksX4_carryOut_2 20 rfl rfl)
theorem dX4_carryOut_71 : decode cX4_carryOut 71 = .ok (.getfield 235, 3) := dk_180 0 235 (dk_at dksX4_carryOut_3 0 rfl rfl)
theorem dX4_carryOut_74 : decode cX4_carryOut 74 = .ok (.iload_n 2, 1) := dk_28 (dk_at dksX4_carryOut_3 3 rfl rfl)
theorem dX4_carryOut_75 : decode cX4_carryOut 75 = .ok (.iaload, 1) := dk_46 (dk_at dksX4_carryOut_3 4 rfl rfl)
theorem dX4_carryOut_76 : decode cX4_carryOut 76 = .ok (.iconst (-1), 1) := dk_2 (dk_at dksX4_carryOut_3 5 rfl rfl)
theorem dX4_carryOut_77 : decode cX4_carryOut 77 = .ok (.if_icmp .eq 22, 3) := dk_159 0 22 (dk_at dksX4_carryOut_3 6 rfl rfl)
theorem dX4_carryOut_80 : decode cX4_carryOut 80 = .ok (.aload_n 0, 1) := dk_42 (dk_at dksX4_carryOut_3 9 rfl rfl)
theorem dX4_carryOut_81 : decode cX4_carryOut 81 = .ok (.getfield 42, 3) := dk_180 0 42 (dk_at dksX4_carryOut_3 10 rfl rfl)
theorem dX4_carryOut_84 : decode cX4_carryOut 84 = .ok (.aload_n 0, 1) := dk_42 (dk_at dksX4_carryOut_3 13 rfl rfl)
theorem dX4_carryOut_85 : decode cX4_carryOut 85 = .ok (.getfield 35, 3) := dk_180 0 35 (dk_at dksX4_carryOut_3 14 rfl rfl)
theorem dX4_carryOut_88 : decode cX4_carryOut 88 = .ok (.getfield 235, 3) := dk_180 0 235 (dk_at dksX4_carryOut_3 17 rfl rfl)
theorem dX4_carryOut_91 : decode cX4_carryOut 91 = .ok (.iload_n 2, 1) := dk_28 (dk_at dksX4_carryOut_3 20 rfl rfl)
theorem dX4_carryOut_92 : decode cX4_carryOut 92 = .ok (.iaload, 1) := dk_46 (dk_at dksX4_carryOut_3 21 rfl rfl)
theorem dX4_carryOut_93 : decode cX4_carryOut 93 = .ok (.iaload, 1) := dk_46 (dk_at dksX4_carryOut_3 22 rfl rfl)
theorem dX4_carryOut_94 : decode cX4_carryOut 94 = .ok (.ifCond .ne 5, 3) := dk_154 0 5 (dk_at dksX4_carryOut_4 0 rfl rfl)
theorem dX4_carryOut_97 : decode cX4_carryOut 97 = .ok (.iconst 0, 1) := dk_3 (dk_at dksX4_carryOut_4 3 rfl rfl)
theorem dX4_carryOut_98 : decode cX4_carryOut 98 = .ok (.ireturn, 1) := dk_172 (dk_at dksX4_carryOut_4 4 rfl rfl)
theorem dX4_carryOut_99 : decode cX4_carryOut 99 = .ok (.aload_n 0, 1) := dk_42 (dk_at dksX4_carryOut_4 5 rfl rfl)
theorem dX4_carryOut_100 : decode cX4_carryOut 100 = .ok (.getfield 35, 3) := dk_180 0 35 (dk_at dksX4_carryOut_4 6 rfl rfl)
theorem dX4_carryOut_103 : decode cX4_carryOut 103 = .ok (.getfield 229, 3) := dk_180 0 229 (dk_at dksX4_carryOut_4 9 rfl rfl)
theorem dX4_carryOut_106 : decode cX4_carryOut 106 = .ok (.iload_n 2, 1) := dk_28 (dk_at dksX4_carryOut_4 12 rfl rfl)
theorem dX4_carryOut_107 : decode cX4_carryOut 107 = .ok (.iaload, 1) := dk_46 (dk_at dksX4_carryOut_4 13 rfl rfl)
theorem dX4_carryOut_108 : decode cX4_carryOut 108 = .ok (.istore_n 3, 1) := dk_62 (dk_at dksX4_carryOut_4 14 rfl rfl)
theorem dX4_carryOut_109 : decode cX4_carryOut 109 = .ok (.aload_n 0, 1) := dk_42 (dk_at dksX4_carryOut_4 15 rfl rfl)
theorem dX4_carryOut_110 : decode cX4_carryOut 110 = .ok (.getfield 35, 3) := dk_180 0 35 (dk_at dksX4_carryOut_4 16 rfl rfl)
theorem dX4_carryOut_113 : decode cX4_carryOut 113 = .ok (.getfield 226, 3) := dk_180 0 226 (dk_at dksX4_carryOut_4 19 rfl rfl)
theorem dX4_carryOut_116 : decode cX4_carryOut 116 = .ok (.iload_n 2, 1) := dk_28 (dk_at dksX4_carryOut_4 22 rfl rfl)
theorem dX4_carryOut_117 : decode cX4_carryOut 117 = .ok (.iaload, 1) := dk_46 (dk_at dksX4_carryOut_4 23 rfl rfl)
theorem dX4_carryOut_118 : decode cX4_carryOut 118 = .ok (.iconst 2, 1) := dk_5 (dk_at dksX4_carryOut_5 0 rfl rfl)
theorem dX4_carryOut_119 : decode cX4_carryOut 119 = .ok (.if_icmp .ne 10, 3) := dk_160 0 10 (dk_at dksX4_carryOut_5 1 rfl rfl)
theorem dX4_carryOut_122 : decode cX4_carryOut 122 = .ok (.aload_n 0, 1) := dk_42 (dk_at dksX4_carryOut_5 4 rfl rfl)
theorem dX4_carryOut_123 : decode cX4_carryOut 123 = .ok (.aload_n 1, 1) := dk_43 (dk_at dksX4_carryOut_5 5 rfl rfl)
theorem dX4_carryOut_124 : decode cX4_carryOut 124 = .ok (.iload_n 3, 1) := dk_29 (dk_at dksX4_carryOut_5 6 rfl rfl)
theorem dX4_carryOut_125 : decode cX4_carryOut 125 = .ok (.invokevirtual 371, 3) := dk_182 1 115 (dk_at dksX4_carryOut_5 7 rfl rfl)
theorem dX4_carryOut_128 : decode cX4_carryOut 128 = .ok (.ireturn, 1) := dk_172 (dk_at dksX4_carryOut_5 10 rfl rfl)
theorem dX4_carryOut_129 : decode cX4_carryOut 129 = .ok (.aload_n 0, 1) := dk_42 (dk_at dksX4_carryOut_5 11 rfl rfl)
theorem dX4_carryOut_130 : decode cX4_carryOut 130 = .ok (.getfield 35, 3) := dk_180 0 35 (dk_at dksX4_carryOut_5 12 rfl rfl)
theorem dX4_carryOut_133 : decode cX4_carryOut 133 = .ok (.getfield 226, 3) := dk_180 0 226 (dk_at dksX4_carryOut_5 15 rfl rfl)
theorem dX4_carryOut_136 : decode cX4_carryOut 136 = .ok (.iload_n 2, 1) := dk_28 (dk_at dksX4_carryOut_5 18 rfl rfl)
theorem dX4_carryOut_137 : decode cX4_carryOut 137 = .ok (.iaload, 1) := dk_46 (dk_at dksX4_carryOut_5 19 rfl rfl)
theorem dX4_carryOut_138 : decode cX4_carryOut 138 = .ok (.ifCond .ne 62, 3) := dk_154 0 62 (dk_at dksX4_carryOut_5 20 rfl rfl)
theorem dX4_carryOut_141 : decode cX4_carryOut 141 = .ok (.aload_n 0, 1) := dk_42 (dk_at dksX4_carryOut_5 23 rfl rfl)
theorem dX4_carryOut_142 : decode cX4_carryOut 142 = .ok (.aload_n 1, 1) := dk_43 (dk_at dksX4_carryOut_6 0 rfl rfl)
theorem dX4_carryOut_143 : decode cX4_carryOut 143 = .ok (.iload_n 3, 1) := dk_29 (dk_at dksX4_carryOut_6 1 rfl rfl)
theorem dX4_carryOut_144 : decode cX4_carryOut 144 = .ok (.aload_n 0, 1) := dk_42 (dk_at dksX4_carryOut_6 2 rfl rfl)
theorem dX4_carryOut_145 : decode cX4_carryOut 145 = .ok (.getfield 42, 3) := dk_180 0 42 (dk_at dksX4_carryOut_6 3 rfl rfl)
theorem dX4_carryOut_148 : decode cX4_carryOut 148 = .ok (.aload_n 0, 1) := dk_42 (dk_at dksX4_carryOut_6 6 rfl rfl)
theorem dX4_carryOut_149 : decode cX4_carryOut 149 = .ok (.getfield 35, 3) := dk_180 0 35 (dk_at dksX4_carryOut_6 7 rfl rfl)
theorem dX4_carryOut_152 : decode cX4_carryOut 152 = .ok (.getfield 232, 3) := dk_180 0 232 (dk_at dksX4_carryOut_6 10 rfl rfl)
theorem dX4_carryOut_155 : decode cX4_carryOut 155 = .ok (.iconst 3, 1) := dk_6 (dk_at dksX4_carryOut_6 13 rfl rfl)
theorem dX4_carryOut_156 : decode cX4_carryOut 156 = .ok (.iload_n 2, 1) := dk_28 (dk_at dksX4_carryOut_6 14 rfl rfl)
theorem dX4_carryOut_157 : decode cX4_carryOut 157 = .ok (.imul, 1) := dk_104 (dk_at dksX4_carryOut_6 15 rfl rfl)
theorem dX4_carryOut_158 : decode cX4_carryOut 158 = .ok (.iaload, 1) := dk_46 (dk_at dksX4_carryOut_6 16 rfl rfl)
theorem dX4_carryOut_159 : decode cX4_carryOut 159 = .ok (.iaload, 1) := dk_46 (dk_at dksX4_carryOut_6 17 rfl rfl)
theorem dX4_carryOut_160 : decode cX4_carryOut 160 = .ok (.aload_n 0, 1) := dk_42 (dk_at dksX4_carryOut_6 18 rfl rfl)
theorem dX4_carryOut_161 : decode cX4_carryOut 161 = .ok (.getfield 42, 3) := dk_180 0 42 (dk_at dksX4_carryOut_6 19 rfl rfl)
theorem dX4_carryOut_164 : decode cX4_carryOut 164 = .ok (.aload_n 0, 1) := dk_42 (dk_at dksX4_carryOut_6 22 rfl rfl)
theorem dX4_carryOut_165 : decode cX4_carryOut 165 = .ok (.getfield 35, 3) := dk_180 0 35 (dk_at dksX4_carryOut_7 0 rfl rfl)
theorem dX4_carryOut_168 : decode cX4_carryOut 168 = .ok (.getfield 232, 3) := dk_180 0 232 (dk_at dksX4_carryOut_7 3 rfl rfl)
theorem dX4_carryOut_171 : decode cX4_carryOut 171 = .ok (.iconst 3, 1) := dk_6 (dk_at dksX4_carryOut_7 6 rfl rfl)
theorem dX4_carryOut_172 : decode cX4_carryOut 172 = .ok (.iload_n 2, 1) := dk_28 (dk_at dksX4_carryOut_7 7 rfl rfl)
theorem dX4_carryOut_173 : decode cX4_carryOut 173 = .ok (.imul, 1) := dk_104 (dk_at dksX4_carryOut_7 8 rfl rfl)
theorem dX4_carryOut_174 : decode cX4_carryOut 174 = .ok (.iconst 1, 1) := dk_4 (dk_at dksX4_carryOut_7 9 rfl rfl)
theorem dX4_carryOut_175 : decode cX4_carryOut 175 = .ok (.iadd, 1) := dk_96 (dk_at dksX4_carryOut_7 10 rfl rfl)
theorem dX4_carryOut_176 : decode cX4_carryOut 176 = .ok (.iaload, 1) := dk_46 (dk_at dksX4_carryOut_7 11 rfl rfl)
theorem dX4_carryOut_177 : decode cX4_carryOut 177 = .ok (.iaload, 1) := dk_46 (dk_at dksX4_carryOut_7 12 rfl rfl)
theorem dX4_carryOut_178 : decode cX4_carryOut 178 = .ok (.aload_n 0, 1) := dk_42 (dk_at dksX4_carryOut_7 13 rfl rfl)
theorem dX4_carryOut_179 : decode cX4_carryOut 179 = .ok (.getfield 42, 3) := dk_180 0 42 (dk_at dksX4_carryOut_7 14 rfl rfl)
theorem dX4_carryOut_182 : decode cX4_carryOut 182 = .ok (.aload_n 0, 1) := dk_42 (dk_at dksX4_carryOut_7 17 rfl rfl)
theorem dX4_carryOut_183 : decode cX4_carryOut 183 = .ok (.getfield 35, 3) := dk_180 0 35 (dk_at dksX4_carryOut_7 18 rfl rfl)
theorem dX4_carryOut_186 : decode cX4_carryOut 186 = .ok (.getfield 232, 3) := dk_180 0 232 (dk_at dksX4_carryOut_7 21 rfl rfl)
theorem dX4_carryOut_189 : decode cX4_carryOut 189 = .ok (.iconst 3, 1) := dk_6 (dk_at dksX4_carryOut_8 0 rfl rfl)
theorem dX4_carryOut_190 : decode cX4_carryOut 190 = .ok (.iload_n 2, 1) := dk_28 (dk_at dksX4_carryOut_8 1 rfl rfl)
theorem dX4_carryOut_191 : decode cX4_carryOut 191 = .ok (.imul, 1) := dk_104 (dk_at dksX4_carryOut_8 2 rfl rfl)
theorem dX4_carryOut_192 : decode cX4_carryOut 192 = .ok (.iconst 2, 1) := dk_5 (dk_at dksX4_carryOut_8 3 rfl rfl)
theorem dX4_carryOut_193 : decode cX4_carryOut 193 = .ok (.iadd, 1) := dk_96 (dk_at dksX4_carryOut_8 4 rfl rfl)
theorem dX4_carryOut_194 : decode cX4_carryOut 194 = .ok (.iaload, 1) := dk_46 (dk_at dksX4_carryOut_8 5 rfl rfl)
theorem dX4_carryOut_195 : decode cX4_carryOut 195 = .ok (.iaload, 1) := dk_46 (dk_at dksX4_carryOut_8 6 rfl rfl)
theorem dX4_carryOut_196 : decode cX4_carryOut 196 = .ok (.invokevirtual 374, 3) := dk_182 1 118 (dk_at dksX4_carryOut_8 7 rfl rfl)
theorem dX4_carryOut_199 : decode cX4_carryOut 199 = .ok (.ireturn, 1) := dk_172 (dk_at dksX4_carryOut_8 10 rfl rfl)
theorem dX4_carryOut_200 : decode cX4_carryOut 200 = .ok (.aload_n 1, 1) := dk_43 (dk_at dksX4_carryOut_8 11 rfl rfl)
theorem dX4_carryOut_201 : decode cX4_carryOut 201 = .ok (.getfield 293, 3) := dk_180 1 37 (dk_at dksX4_carryOut_8 12 rfl rfl)
theorem dX4_carryOut_204 : decode cX4_carryOut 204 = .ok (.iload_n 3, 1) := dk_29 (dk_at dksX4_carryOut_8 15 rfl rfl)
theorem dX4_carryOut_205 : decode cX4_carryOut 205 = .ok (.iaload, 1) := dk_46 (dk_at dksX4_carryOut_8 16 rfl rfl)
theorem dX4_carryOut_206 : decode cX4_carryOut 206 = .ok (.iconst (-1), 1) := dk_2 (dk_at dksX4_carryOut_8 17 rfl rfl)
theorem dX4_carryOut_207 : decode cX4_carryOut 207 = .ok (.if_icmp .ne 5, 3) := dk_160 0 5 (dk_at dksX4_carryOut_8 18 rfl rfl)
theorem dX4_carryOut_210 : decode cX4_carryOut 210 = .ok (.iconst 0, 1) := dk_3 (dk_at dksX4_carryOut_8 21 rfl rfl)
theorem dX4_carryOut_211 : decode cX4_carryOut 211 = .ok (.ireturn, 1) := dk_172 (dk_at dksX4_carryOut_8 22 rfl rfl)
theorem dX4_carryOut_212 : decode cX4_carryOut 212 = .ok (.aload_n 1, 1) := dk_43 (dk_at dksX4_carryOut_8 23 rfl rfl)
theorem dX4_carryOut_213 : decode cX4_carryOut 213 = .ok (.iload_n 3, 1) := dk_29 (dk_at dksX4_carryOut_9 0 rfl rfl)
theorem dX4_carryOut_214 : decode cX4_carryOut 214 = .ok (.invokevirtual 378, 3) := dk_182 1 122 (dk_at dksX4_carryOut_9 1 rfl rfl)
theorem dX4_carryOut_217 : decode cX4_carryOut 217 = .ok (.iconst 1, 1) := dk_4 (dk_at dksX4_carryOut_9 4 rfl rfl)
theorem dX4_carryOut_218 : decode cX4_carryOut 218 = .ok (.ireturn, 1) := dk_172 (dk_at dksX4_carryOut_9 5 rfl rfl)
abbrev cX4_reckon : ByteArray := prog_45_method_62_code
def yX4_reckon : MethodName := ⟨RX4, "reckon", "(LRingDominoModel$State;III)I"⟩
def dkwX4_reckon_6 : List UInt8 := [100, 172, 28, 42, 180, 0, 42, 29, 46, 42, 180, 0, 42, 21, 4, 46, 184, 1, 102, 172]
abbrev dktX4_reckon_6 : List UInt8 := dkwX4_reckon_6 ++ []
def dkwX4_reckon_5 : List UInt8 := [159, 0, 7, 4, 167, 0, 4, 3, 172, 42, 180, 0, 42, 29, 46, 116, 172, 4, 42, 180, 0, 42, 29, 46]
abbrev dktX4_reckon_5 : List UInt8 := dkwX4_reckon_5 ++ dktX4_reckon_6
def dkwX4_reckon_4 : List UInt8 := [180, 1, 37, 29, 46, 2, 159, 0, 7, 4, 167, 0, 4, 3, 172, 42, 43, 29, 182, 1, 99, 2]
abbrev dktX4_reckon_4 : List UInt8 := dkwX4_reckon_4 ++ dktX4_reckon_5
def dkwX4_reckon_3 : List UInt8 := [42, 43, 182, 1, 69, 172, 42, 182, 1, 51, 43, 180, 1, 40, 100, 172, 42, 43, 29, 182, 1, 96, 172, 43]
abbrev dktX4_reckon_3 : List UInt8 := dkwX4_reckon_3 ++ dktX4_reckon_4
def dkwX4_reckon_2 : List UInt8 := [29, 172, 43, 180, 1, 87, 172, 43, 180, 1, 40, 172, 42, 43, 182, 1, 90, 172, 42, 43, 182, 1, 93, 172]
abbrev dktX4_reckon_2 : List UInt8 := dkwX4_reckon_2 ++ dktX4_reckon_3
def dkwX4_reckon_1 : List UInt8 := [171, 0, 0, 0, 0, 0, 203, 0, 0, 0, 12, 0, 0, 0, 9, 0, 0, 0, 109, 0, 0, 0, 10, 0, 0, 0, 114, 0, 0, 0, 11, 0, 0, 0, 119, 0, 0, 0, 12, 0, 0, 0, 125, 0, 0, 0, 13, 0, 0, 0, 131, 0, 0, 0, 14, 0, 0, 0, 137, 0, 0, 0, 15, 0, 0, 0, 147, 0, 0, 0, 17, 0, 0, 0, 154, 0, 0, 0, 18, 0, 0, 0, 170, 0, 0, 0, 19, 0, 0, 0, 194, 0, 0, 0, 31, 0, 0, 0, 107, 0, 0, 0, 60, 0, 0, 0, 186]
abbrev dktX4_reckon_1 : List UInt8 := dkwX4_reckon_1 ++ dktX4_reckon_2
def dkwX4_reckon_0 : List UInt8 := [28]
abbrev dktX4_reckon_0 : List UInt8 := dkwX4_reckon_0 ++ dktX4_reckon_1
theorem dksX4_reckon_0 : cX4_reckon.data.toList.drop 0 = dktX4_reckon_0 := by decide +kernel
theorem dksX4_reckon_1 : cX4_reckon.data.toList.drop 1 = dktX4_reckon_1 := dk_seg dksX4_reckon_0 1 rfl rfl
theorem dksX4_reckon_2 : cX4_reckon.data.toList.drop 108 = dktX4_reckon_2 := dk_seg dksX4_reckon_1 107 rfl rfl
theorem dksX4_reckon_3 : cX4_reckon.data.toList.drop 132 = dktX4_reckon_3 := dk_seg dksX4_reckon_2 24 rfl rfl
theorem dksX4_reckon_4 : cX4_reckon.data.toList.drop 156 = dktX4_reckon_4 := dk_seg dksX4_reckon_3 24 rfl rfl
theorem dksX4_reckon_5 : cX4_reckon.data.toList.drop 178 = dktX4_reckon_5 := dk_seg dksX4_reckon_4 22 rfl rfl
theorem dksX4_reckon_6 : cX4_reckon.data.toList.drop 202 = dktX4_reckon_6 := dk_seg dksX4_reckon_5 24 rfl rfl
theorem dX4_reckon_0 : decode cX4_reckon 0 = .ok (.iload_n 2, 1) := dk_28 (dk_at dksX4_reckon_0 0 rfl rfl)
theorem dX4_reckon_1 : decode cX4_reckon 1 = .ok (.lookupswitch 203 #[(9, 109), (10, 114), (11, 119), (12, 125), (13, 131), (14, 137), (15, 147), (17, 154), (18, 170), (19, 194), (31, 107), (60, 186)], 107) := by decide +kernel
theorem dX4_reckon_108 : decode cX4_reckon 108 = .ok (.iload_n 3, 1) := dk_29 (dk_at dksX4_reckon_2 0 rfl rfl)
theorem dX4_reckon_109 : decode cX4_reckon 109 = .ok (.ireturn, 1) := dk_172 (dk_at dksX4_reckon_2 1 rfl rfl)
theorem dX4_reckon_110 : decode cX4_reckon 110 = .ok (.aload_n 1, 1) := dk_43 (dk_at dksX4_reckon_2 2 rfl rfl)
theorem dX4_reckon_111 : decode cX4_reckon 111 = .ok (.getfield 343, 3) := dk_180 1 87 (dk_at dksX4_reckon_2 3 rfl rfl)
theorem dX4_reckon_114 : decode cX4_reckon 114 = .ok (.ireturn, 1) := dk_172 (dk_at dksX4_reckon_2 6 rfl rfl)
theorem dX4_reckon_115 : decode cX4_reckon 115 = .ok (.aload_n 1, 1) := dk_43 (dk_at dksX4_reckon_2 7 rfl rfl)
theorem dX4_reckon_116 : decode cX4_reckon 116 = .ok (.getfield 296, 3) := dk_180 1 40 (dk_at dksX4_reckon_2 8 rfl rfl)
theorem dX4_reckon_119 : decode cX4_reckon 119 = .ok (.ireturn, 1) := dk_172 (dk_at dksX4_reckon_2 11 rfl rfl)
theorem dX4_reckon_120 : decode cX4_reckon 120 = .ok (.aload_n 0, 1) := dk_42 (dk_at dksX4_reckon_2 12 rfl rfl)
theorem dX4_reckon_121 : decode cX4_reckon 121 = .ok (.aload_n 1, 1) := dk_43 (dk_at dksX4_reckon_2 13 rfl rfl)
theorem dX4_reckon_122 : decode cX4_reckon 122 = .ok (.invokevirtual 346, 3) := dk_182 1 90 (dk_at dksX4_reckon_2 14 rfl rfl)
theorem dX4_reckon_125 : decode cX4_reckon 125 = .ok (.ireturn, 1) := dk_172 (dk_at dksX4_reckon_2 17 rfl rfl)
theorem dX4_reckon_126 : decode cX4_reckon 126 = .ok (.aload_n 0, 1) := dk_42 (dk_at dksX4_reckon_2 18 rfl rfl)
theorem dX4_reckon_127 : decode cX4_reckon 127 = .ok (.aload_n 1, 1) := dk_43 (dk_at dksX4_reckon_2 19 rfl rfl)
theorem dX4_reckon_128 : decode cX4_reckon 128 = .ok (.invokevirtual 349, 3) := dk_182 1 93 (dk_at dksX4_reckon_2 20 rfl rfl)
theorem dX4_reckon_131 : decode cX4_reckon 131 = .ok (.ireturn, 1) := dk_172 (dk_at dksX4_reckon_2 23 rfl rfl)
theorem dX4_reckon_132 : decode cX4_reckon 132 = .ok (.aload_n 0, 1) := dk_42 (dk_at dksX4_reckon_3 0 rfl rfl)
theorem dX4_reckon_133 : decode cX4_reckon 133 = .ok (.aload_n 1, 1) := dk_43 (dk_at dksX4_reckon_3 1 rfl rfl)
theorem dX4_reckon_134 : decode cX4_reckon 134 = .ok (.invokevirtual 325, 3) := dk_182 1 69 (dk_at dksX4_reckon_3 2 rfl rfl)
theorem dX4_reckon_137 : decode cX4_reckon 137 = .ok (.ireturn, 1) := dk_172 (dk_at dksX4_reckon_3 5 rfl rfl)
theorem dX4_reckon_138 : decode cX4_reckon 138 = .ok (.aload_n 0, 1) := dk_42 (dk_at dksX4_reckon_3 6 rfl rfl)
theorem dX4_reckon_139 : decode cX4_reckon 139 = .ok (.invokevirtual 307, 3) := dk_182 1 51 (dk_at dksX4_reckon_3 7 rfl rfl)
theorem dX4_reckon_142 : decode cX4_reckon 142 = .ok (.aload_n 1, 1) := dk_43 (dk_at dksX4_reckon_3 10 rfl rfl)
theorem dX4_reckon_143 : decode cX4_reckon 143 = .ok (.getfield 296, 3) := dk_180 1 40 (dk_at dksX4_reckon_3 11 rfl rfl)
theorem dX4_reckon_146 : decode cX4_reckon 146 = .ok (.isub, 1) := dk_100 (dk_at dksX4_reckon_3 14 rfl rfl)
theorem dX4_reckon_147 : decode cX4_reckon 147 = .ok (.ireturn, 1) := dk_172 (dk_at dksX4_reckon_3 15 rfl rfl)
theorem dX4_reckon_148 : decode cX4_reckon 148 = .ok (.aload_n 0, 1) := dk_42 (dk_at dksX4_reckon_3 16 rfl rfl)
theorem dX4_reckon_149 : decode cX4_reckon 149 = .ok (.aload_n 1, 1) := dk_43 (dk_at dksX4_reckon_3 17 rfl rfl)
theorem dX4_reckon_150 : decode cX4_reckon 150 = .ok (.iload_n 3, 1) := dk_29 (dk_at dksX4_reckon_3 18 rfl rfl)
theorem dX4_reckon_151 : decode cX4_reckon 151 = .ok (.invokevirtual 352, 3) := dk_182 1 96 (dk_at dksX4_reckon_3 19 rfl rfl)
theorem dX4_reckon_154 : decode cX4_reckon 154 = .ok (.ireturn, 1) := dk_172 (dk_at dksX4_reckon_3 22 rfl rfl)
theorem dX4_reckon_155 : decode cX4_reckon 155 = .ok (.aload_n 1, 1) := dk_43 (dk_at dksX4_reckon_3 23 rfl rfl)
theorem dX4_reckon_156 : decode cX4_reckon 156 = .ok (.getfield 293, 3) := dk_180 1 37 (dk_at dksX4_reckon_4 0 rfl rfl)
theorem dX4_reckon_159 : decode cX4_reckon 159 = .ok (.iload_n 3, 1) := dk_29 (dk_at dksX4_reckon_4 3 rfl rfl)
theorem dX4_reckon_160 : decode cX4_reckon 160 = .ok (.iaload, 1) := dk_46 (dk_at dksX4_reckon_4 4 rfl rfl)
theorem dX4_reckon_161 : decode cX4_reckon 161 = .ok (.iconst (-1), 1) := dk_2 (dk_at dksX4_reckon_4 5 rfl rfl)
theorem dX4_reckon_162 : decode cX4_reckon 162 = .ok (.if_icmp .eq 7, 3) := dk_159 0 7 (dk_at dksX4_reckon_4 6 rfl rfl)
theorem dX4_reckon_165 : decode cX4_reckon 165 = .ok (.iconst 1, 1) := dk_4 (dk_at dksX4_reckon_4 9 rfl rfl)
theorem dX4_reckon_166 : decode cX4_reckon 166 = .ok (.goto 4, 3) := dk_167 0 4 (dk_at dksX4_reckon_4 10 rfl rfl)
theorem dX4_reckon_169 : decode cX4_reckon 169 = .ok (.iconst 0, 1) := dk_3 (dk_at dksX4_reckon_4 13 rfl rfl)
theorem dX4_reckon_170 : decode cX4_reckon 170 = .ok (.ireturn, 1) := dk_172 (dk_at dksX4_reckon_4 14 rfl rfl)
theorem dX4_reckon_171 : decode cX4_reckon 171 = .ok (.aload_n 0, 1) := dk_42 (dk_at dksX4_reckon_4 15 rfl rfl)
theorem dX4_reckon_172 : decode cX4_reckon 172 = .ok (.aload_n 1, 1) := dk_43 (dk_at dksX4_reckon_4 16 rfl rfl)
theorem dX4_reckon_173 : decode cX4_reckon 173 = .ok (.iload_n 3, 1) := dk_29 (dk_at dksX4_reckon_4 17 rfl rfl)
theorem dX4_reckon_174 : decode cX4_reckon 174 = .ok (.invokevirtual 355, 3) := dk_182 1 99 (dk_at dksX4_reckon_4 18 rfl rfl)
theorem dX4_reckon_177 : decode cX4_reckon 177 = .ok (.iconst (-1), 1) := dk_2 (dk_at dksX4_reckon_4 21 rfl rfl)
theorem dX4_reckon_178 : decode cX4_reckon 178 = .ok (.if_icmp .eq 7, 3) := dk_159 0 7 (dk_at dksX4_reckon_5 0 rfl rfl)
theorem dX4_reckon_181 : decode cX4_reckon 181 = .ok (.iconst 1, 1) := dk_4 (dk_at dksX4_reckon_5 3 rfl rfl)
theorem dX4_reckon_182 : decode cX4_reckon 182 = .ok (.goto 4, 3) := dk_167 0 4 (dk_at dksX4_reckon_5 4 rfl rfl)
theorem dX4_reckon_185 : decode cX4_reckon 185 = .ok (.iconst 0, 1) := dk_3 (dk_at dksX4_reckon_5 7 rfl rfl)
theorem dX4_reckon_186 : decode cX4_reckon 186 = .ok (.ireturn, 1) := dk_172 (dk_at dksX4_reckon_5 8 rfl rfl)
theorem dX4_reckon_187 : decode cX4_reckon 187 = .ok (.aload_n 0, 1) := dk_42 (dk_at dksX4_reckon_5 9 rfl rfl)
theorem dX4_reckon_188 : decode cX4_reckon 188 = .ok (.getfield 42, 3) := dk_180 0 42 (dk_at dksX4_reckon_5 10 rfl rfl)
theorem dX4_reckon_191 : decode cX4_reckon 191 = .ok (.iload_n 3, 1) := dk_29 (dk_at dksX4_reckon_5 13 rfl rfl)
theorem dX4_reckon_192 : decode cX4_reckon 192 = .ok (.iaload, 1) := dk_46 (dk_at dksX4_reckon_5 14 rfl rfl)
theorem dX4_reckon_193 : decode cX4_reckon 193 = .ok (.ineg, 1) := dk_116 (dk_at dksX4_reckon_5 15 rfl rfl)
theorem dX4_reckon_194 : decode cX4_reckon 194 = .ok (.ireturn, 1) := dk_172 (dk_at dksX4_reckon_5 16 rfl rfl)
theorem dX4_reckon_195 : decode cX4_reckon 195 = .ok (.iconst 1, 1) := dk_4 (dk_at dksX4_reckon_5 17 rfl rfl)
theorem dX4_reckon_196 : decode cX4_reckon 196 = .ok (.aload_n 0, 1) := dk_42 (dk_at dksX4_reckon_5 18 rfl rfl)
theorem dX4_reckon_197 : decode cX4_reckon 197 = .ok (.getfield 42, 3) := dk_180 0 42 (dk_at dksX4_reckon_5 19 rfl rfl)
theorem dX4_reckon_200 : decode cX4_reckon 200 = .ok (.iload_n 3, 1) := dk_29 (dk_at dksX4_reckon_5 22 rfl rfl)
theorem dX4_reckon_201 : decode cX4_reckon 201 = .ok (.iaload, 1) := dk_46 (dk_at dksX4_reckon_5 23 rfl rfl)
theorem dX4_reckon_202 : decode cX4_reckon 202 = .ok (.isub, 1) := dk_100 (dk_at dksX4_reckon_6 0 rfl rfl)
theorem dX4_reckon_203 : decode cX4_reckon 203 = .ok (.ireturn, 1) := dk_172 (dk_at dksX4_reckon_6 1 rfl rfl)
theorem dX4_reckon_204 : decode cX4_reckon 204 = .ok (.iload_n 2, 1) := dk_28 (dk_at dksX4_reckon_6 2 rfl rfl)
theorem dX4_reckon_205 : decode cX4_reckon 205 = .ok (.aload_n 0, 1) := dk_42 (dk_at dksX4_reckon_6 3 rfl rfl)
theorem dX4_reckon_206 : decode cX4_reckon 206 = .ok (.getfield 42, 3) := dk_180 0 42 (dk_at dksX4_reckon_6 4 rfl rfl)
theorem dX4_reckon_209 : decode cX4_reckon 209 = .ok (.iload_n 3, 1) := dk_29 (dk_at dksX4_reckon_6 7 rfl rfl)
theorem dX4_reckon_210 : decode cX4_reckon 210 = .ok (.iaload, 1) := dk_46 (dk_at dksX4_reckon_6 8 rfl rfl)
theorem dX4_reckon_211 : decode cX4_reckon 211 = .ok (.aload_n 0, 1) := dk_42 (dk_at dksX4_reckon_6 9 rfl rfl)
theorem dX4_reckon_212 : decode cX4_reckon 212 = .ok (.getfield 42, 3) := dk_180 0 42 (dk_at dksX4_reckon_6 10 rfl rfl)
theorem dX4_reckon_215 : decode cX4_reckon 215 = .ok (.iload 4, 2) := dk_21 4 (dk_at dksX4_reckon_6 13 rfl rfl)
theorem dX4_reckon_217 : decode cX4_reckon 217 = .ok (.iaload, 1) := dk_46 (dk_at dksX4_reckon_6 15 rfl rfl)
theorem dX4_reckon_218 : decode cX4_reckon 218 = .ok (.invokestatic 358, 3) := dk_184 1 102 (dk_at dksX4_reckon_6 16 rfl rfl)
theorem dX4_reckon_221 : decode cX4_reckon 221 = .ok (.ireturn, 1) := dk_172 (dk_at dksX4_reckon_6 19 rfl rfl)
abbrev cX4_joined : ByteArray := prog_45_method_63_code
def yX4_joined : MethodName := ⟨RX4, "joined", "(III)I"⟩
def dkwX4_joined_6 : List UInt8 := [161, 0, 7, 4, 167, 0, 4, 3, 172]
abbrev dktX4_joined_6 : List UInt8 := dkwX4_joined_6 ++ []
def dkwX4_joined_5 : List UInt8 := [160, 0, 7, 4, 167, 0, 4, 3, 172, 27, 28, 163, 0, 7, 4, 167, 0, 4, 3, 172, 27, 28]
abbrev dktX4_joined_5 : List UInt8 := dkwX4_joined_5 ++ dktX4_joined_6
def dkwX4_joined_4 : List UInt8 := [162, 0, 7, 4, 167, 0, 4, 3, 172, 27, 28, 164, 0, 7, 4, 167, 0, 4, 3, 172, 27, 28]
abbrev dktX4_joined_4 : List UInt8 := dkwX4_joined_4 ++ dktX4_joined_5
def dkwX4_joined_3 : List UInt8 := [27, 28, 184, 0, 211, 172, 27, 28, 184, 0, 167, 172, 27, 28, 126, 172, 27, 28, 128, 172, 27, 28]
abbrev dktX4_joined_3 : List UInt8 := dkwX4_joined_3 ++ dktX4_joined_4
def dkwX4_joined_2 : List UInt8 := [27, 28, 96, 172, 27, 28, 100, 172, 27, 28, 104, 172, 28, 154, 0, 7, 3, 167, 0, 6, 27, 28, 108, 172]
abbrev dktX4_joined_2 : List UInt8 := dkwX4_joined_2 ++ dktX4_joined_3
def dkwX4_joined_1 : List UInt8 := [170, 0, 0, 0, 0, 0, 215, 0, 0, 0, 20, 0, 0, 0, 47, 0, 0, 0, 163, 0, 0, 0, 167, 0, 0, 0, 151, 0, 0, 0, 157, 0, 0, 0, 215, 0, 0, 0, 215, 0, 0, 0, 215, 0, 0, 0, 215, 0, 0, 0, 215, 0, 0, 0, 215, 0, 0, 0, 215, 0, 0, 0, 215, 0, 0, 0, 215, 0, 0, 0, 215, 0, 0, 0, 215, 0, 0, 0, 215, 0, 0, 0, 215, 0, 0, 0, 215, 0, 0, 0, 215, 0, 0, 0, 215, 0, 0, 0, 127, 0, 0, 0, 131, 0, 0, 0, 135, 0, 0, 0, 139, 0, 0, 0, 171, 0, 0, 0, 182, 0, 0, 0, 193, 0, 0, 0, 204]
abbrev dktX4_joined_1 : List UInt8 := dkwX4_joined_1 ++ dktX4_joined_2
def dkwX4_joined_0 : List UInt8 := [26]
abbrev dktX4_joined_0 : List UInt8 := dkwX4_joined_0 ++ dktX4_joined_1
theorem dksX4_joined_0 : cX4_joined.data.toList.drop 0 = dktX4_joined_0 := by decide +kernel
theorem dksX4_joined_1 : cX4_joined.data.toList.drop 1 = dktX4_joined_1 := dk_seg dksX4_joined_0 1 rfl rfl
theorem dksX4_joined_2 : cX4_joined.data.toList.drop 128 = dktX4_joined_2 := dk_seg dksX4_joined_1 127 rfl rfl
theorem dksX4_joined_3 : cX4_joined.data.toList.drop 152 = dktX4_joined_3 := dk_seg dksX4_joined_2 24 rfl rfl
theorem dksX4_joined_4 : cX4_joined.data.toList.drop 174 = dktX4_joined_4 := dk_seg dksX4_joined_3 22 rfl rfl
theorem dksX4_joined_5 : cX4_joined.data.toList.drop 196 = dktX4_joined_5 := dk_seg dksX4_joined_4 22 rfl rfl
theorem dksX4_joined_6 : cX4_joined.data.toList.drop 218 = dktX4_joined_6 := dk_seg dksX4_joined_5 22 rfl rfl
theorem dX4_joined_0 : decode cX4_joined 0 = .ok (.iload_n 0, 1) := dk_26 (dk_at dksX4_joined_0 0 rfl rfl)
theorem dX4_joined_1 : decode cX4_joined 1 = .ok (.tableswitch 215 20 47 #[163, 167, 151, 157, 215, 215, 215, 215, 215, 215, 215, 215, 215, 215, 215, 215, 215, 215, 215, 215, 127, 131, 135, 139, 171, 182, 193, 204], 127) := by decide +kernel
theorem dX4_joined_128 : decode cX4_joined 128 = .ok (.iload_n 1, 1) := dk_27 (dk_at dksX4_joined_2 0 rfl rfl)
theorem dX4_joined_129 : decode cX4_joined 129 = .ok (.iload_n 2, 1) := dk_28 (dk_at dksX4_joined_2 1 rfl rfl)
theorem dX4_joined_130 : decode cX4_joined 130 = .ok (.iadd, 1) := dk_96 (dk_at dksX4_joined_2 2 rfl rfl)
theorem dX4_joined_131 : decode cX4_joined 131 = .ok (.ireturn, 1) := dk_172 (dk_at dksX4_joined_2 3 rfl rfl)
theorem dX4_joined_132 : decode cX4_joined 132 = .ok (.iload_n 1, 1) := dk_27 (dk_at dksX4_joined_2 4 rfl rfl)
theorem dX4_joined_133 : decode cX4_joined 133 = .ok (.iload_n 2, 1) := dk_28 (dk_at dksX4_joined_2 5 rfl rfl)
theorem dX4_joined_134 : decode cX4_joined 134 = .ok (.isub, 1) := dk_100 (dk_at dksX4_joined_2 6 rfl rfl)
theorem dX4_joined_135 : decode cX4_joined 135 = .ok (.ireturn, 1) := dk_172 (dk_at dksX4_joined_2 7 rfl rfl)
theorem dX4_joined_136 : decode cX4_joined 136 = .ok (.iload_n 1, 1) := dk_27 (dk_at dksX4_joined_2 8 rfl rfl)
theorem dX4_joined_137 : decode cX4_joined 137 = .ok (.iload_n 2, 1) := dk_28 (dk_at dksX4_joined_2 9 rfl rfl)
theorem dX4_joined_138 : decode cX4_joined 138 = .ok (.imul, 1) := dk_104 (dk_at dksX4_joined_2 10 rfl rfl)
theorem dX4_joined_139 : decode cX4_joined 139 = .ok (.ireturn, 1) := dk_172 (dk_at dksX4_joined_2 11 rfl rfl)
theorem dX4_joined_140 : decode cX4_joined 140 = .ok (.iload_n 2, 1) := dk_28 (dk_at dksX4_joined_2 12 rfl rfl)
theorem dX4_joined_141 : decode cX4_joined 141 = .ok (.ifCond .ne 7, 3) := dk_154 0 7 (dk_at dksX4_joined_2 13 rfl rfl)
theorem dX4_joined_144 : decode cX4_joined 144 = .ok (.iconst 0, 1) := dk_3 (dk_at dksX4_joined_2 16 rfl rfl)
theorem dX4_joined_145 : decode cX4_joined 145 = .ok (.goto 6, 3) := dk_167 0 6 (dk_at dksX4_joined_2 17 rfl rfl)
theorem dX4_joined_148 : decode cX4_joined 148 = .ok (.iload_n 1, 1) := dk_27 (dk_at dksX4_joined_2 20 rfl rfl)
theorem dX4_joined_149 : decode cX4_joined 149 = .ok (.iload_n 2, 1) := dk_28 (dk_at dksX4_joined_2 21 rfl rfl)
theorem dX4_joined_150 : decode cX4_joined 150 = .ok (.idiv, 1) := dk_108 (dk_at dksX4_joined_2 22 rfl rfl)
theorem dX4_joined_151 : decode cX4_joined 151 = .ok (.ireturn, 1) := dk_172 (dk_at dksX4_joined_2 23 rfl rfl)
theorem dX4_joined_152 : decode cX4_joined 152 = .ok (.iload_n 1, 1) := dk_27 (dk_at dksX4_joined_3 0 rfl rfl)
theorem dX4_joined_153 : decode cX4_joined 153 = .ok (.iload_n 2, 1) := dk_28 (dk_at dksX4_joined_3 1 rfl rfl)
theorem dX4_joined_154 : decode cX4_joined 154 = .ok (.invokestatic 211, 3) := dk_184 0 211 (dk_at dksX4_joined_3 2 rfl rfl)
theorem dX4_joined_157 : decode cX4_joined 157 = .ok (.ireturn, 1) := dk_172 (dk_at dksX4_joined_3 5 rfl rfl)
theorem dX4_joined_158 : decode cX4_joined 158 = .ok (.iload_n 1, 1) := dk_27 (dk_at dksX4_joined_3 6 rfl rfl)
theorem dX4_joined_159 : decode cX4_joined 159 = .ok (.iload_n 2, 1) := dk_28 (dk_at dksX4_joined_3 7 rfl rfl)
theorem dX4_joined_160 : decode cX4_joined 160 = .ok (.invokestatic 167, 3) := dk_184 0 167 (dk_at dksX4_joined_3 8 rfl rfl)
theorem dX4_joined_163 : decode cX4_joined 163 = .ok (.ireturn, 1) := dk_172 (dk_at dksX4_joined_3 11 rfl rfl)
theorem dX4_joined_164 : decode cX4_joined 164 = .ok (.iload_n 1, 1) := dk_27 (dk_at dksX4_joined_3 12 rfl rfl)
theorem dX4_joined_165 : decode cX4_joined 165 = .ok (.iload_n 2, 1) := dk_28 (dk_at dksX4_joined_3 13 rfl rfl)
theorem dX4_joined_166 : decode cX4_joined 166 = .ok (.iand, 1) := dk_126 (dk_at dksX4_joined_3 14 rfl rfl)
theorem dX4_joined_167 : decode cX4_joined 167 = .ok (.ireturn, 1) := dk_172 (dk_at dksX4_joined_3 15 rfl rfl)
theorem dX4_joined_168 : decode cX4_joined 168 = .ok (.iload_n 1, 1) := dk_27 (dk_at dksX4_joined_3 16 rfl rfl)
theorem dX4_joined_169 : decode cX4_joined 169 = .ok (.iload_n 2, 1) := dk_28 (dk_at dksX4_joined_3 17 rfl rfl)
theorem dX4_joined_170 : decode cX4_joined 170 = .ok (.ior, 1) := dk_128 (dk_at dksX4_joined_3 18 rfl rfl)
theorem dX4_joined_171 : decode cX4_joined 171 = .ok (.ireturn, 1) := dk_172 (dk_at dksX4_joined_3 19 rfl rfl)
theorem dX4_joined_172 : decode cX4_joined 172 = .ok (.iload_n 1, 1) := dk_27 (dk_at dksX4_joined_3 20 rfl rfl)
theorem dX4_joined_173 : decode cX4_joined 173 = .ok (.iload_n 2, 1) := dk_28 (dk_at dksX4_joined_3 21 rfl rfl)
theorem dX4_joined_174 : decode cX4_joined 174 = .ok (.if_icmp .ge 7, 3) := dk_162 0 7 (dk_at dksX4_joined_4 0 rfl rfl)
theorem dX4_joined_177 : decode cX4_joined 177 = .ok (.iconst 1, 1) := dk_4 (dk_at dksX4_joined_4 3 rfl rfl)
theorem dX4_joined_178 : decode cX4_joined 178 = .ok (.goto 4, 3) := dk_167 0 4 (dk_at dksX4_joined_4 4 rfl rfl)
theorem dX4_joined_181 : decode cX4_joined 181 = .ok (.iconst 0, 1) := dk_3 (dk_at dksX4_joined_4 7 rfl rfl)
theorem dX4_joined_182 : decode cX4_joined 182 = .ok (.ireturn, 1) := dk_172 (dk_at dksX4_joined_4 8 rfl rfl)
theorem dX4_joined_183 : decode cX4_joined 183 = .ok (.iload_n 1, 1) := dk_27 (dk_at dksX4_joined_4 9 rfl rfl)
theorem dX4_joined_184 : decode cX4_joined 184 = .ok (.iload_n 2, 1) := dk_28 (dk_at dksX4_joined_4 10 rfl rfl)
theorem dX4_joined_185 : decode cX4_joined 185 = .ok (.if_icmp .le 7, 3) := dk_164 0 7 (dk_at dksX4_joined_4 11 rfl rfl)
theorem dX4_joined_188 : decode cX4_joined 188 = .ok (.iconst 1, 1) := dk_4 (dk_at dksX4_joined_4 14 rfl rfl)
theorem dX4_joined_189 : decode cX4_joined 189 = .ok (.goto 4, 3) := dk_167 0 4 (dk_at dksX4_joined_4 15 rfl rfl)
theorem dX4_joined_192 : decode cX4_joined 192 = .ok (.iconst 0, 1) := dk_3 (dk_at dksX4_joined_4 18 rfl rfl)
theorem dX4_joined_193 : decode cX4_joined 193 = .ok (.ireturn, 1) := dk_172 (dk_at dksX4_joined_4 19 rfl rfl)
theorem dX4_joined_194 : decode cX4_joined 194 = .ok (.iload_n 1, 1) := dk_27 (dk_at dksX4_joined_4 20 rfl rfl)
theorem dX4_joined_195 : decode cX4_joined 195 = .ok (.iload_n 2, 1) := dk_28 (dk_at dksX4_joined_4 21 rfl rfl)
theorem dX4_joined_196 : decode cX4_joined 196 = .ok (.if_icmp .ne 7, 3) := dk_160 0 7 (dk_at dksX4_joined_5 0 rfl rfl)
theorem dX4_joined_199 : decode cX4_joined 199 = .ok (.iconst 1, 1) := dk_4 (dk_at dksX4_joined_5 3 rfl rfl)
theorem dX4_joined_200 : decode cX4_joined 200 = .ok (.goto 4, 3) := dk_167 0 4 (dk_at dksX4_joined_5 4 rfl rfl)
theorem dX4_joined_203 : decode cX4_joined 203 = .ok (.iconst 0, 1) := dk_3 (dk_at dksX4_joined_5 7 rfl rfl)
theorem dX4_joined_204 : decode cX4_joined 204 = .ok (.ireturn, 1) := dk_172 (dk_at dksX4_joined_5 8 rfl rfl)
theorem dX4_joined_205 : decode cX4_joined 205 = .ok (.iload_n 1, 1) := dk_27 (dk_at dksX4_joined_5 9 rfl rfl)
theorem dX4_joined_206 : decode cX4_joined 206 = .ok (.iload_n 2, 1) := dk_28 (dk_at dksX4_joined_5 10 rfl rfl)
theorem dX4_joined_207 : decode cX4_joined 207 = .ok (.if_icmp .gt 7, 3) := dk_163 0 7 (dk_at dksX4_joined_5 11 rfl rfl)
theorem dX4_joined_210 : decode cX4_joined 210 = .ok (.iconst 1, 1) := dk_4 (dk_at dksX4_joined_5 14 rfl rfl)
theorem dX4_joined_211 : decode cX4_joined 211 = .ok (.goto 4, 3) := dk_167 0 4 (dk_at dksX4_joined_5 15 rfl rfl)
theorem dX4_joined_214 : decode cX4_joined 214 = .ok (.iconst 0, 1) := dk_3 (dk_at dksX4_joined_5 18 rfl rfl)
theorem dX4_joined_215 : decode cX4_joined 215 = .ok (.ireturn, 1) := dk_172 (dk_at dksX4_joined_5 19 rfl rfl)
theorem dX4_joined_216 : decode cX4_joined 216 = .ok (.iload_n 1, 1) := dk_27 (dk_at dksX4_joined_5 20 rfl rfl)
theorem dX4_joined_217 : decode cX4_joined 217 = .ok (.iload_n 2, 1) := dk_28 (dk_at dksX4_joined_5 21 rfl rfl)
theorem dX4_joined_218 : decode cX4_joined 218 = .ok (.if_icmp .lt 7, 3) := dk_161 0 7 (dk_at dksX4_joined_6 0 rfl rfl)
theorem dX4_joined_221 : decode cX4_joined 221 = .ok (.iconst 1, 1) := dk_4 (dk_at dksX4_joined_6 3 rfl rfl)
theorem dX4_joined_222 : decode cX4_joined 222 = .ok (.goto 4, 3) := dk_167 0 4 (dk_at dksX4_joined_6 4 rfl rfl)
theorem dX4_joined_225 : decode cX4_joined 225 = .ok (.iconst 0, 1) := dk_3 (dk_at dksX4_joined_6 7 rfl rfl)
theorem dX4_joined_226 : decode cX4_joined 226 = .ok (.ireturn, 1) := dk_172 (dk_at dksX4_joined_6 8 rfl rfl)
abbrev cX4_isPut : ByteArray := prog_45_method_64_code
def yX4_isPut : MethodName := ⟨RX4, "isPut", "(LRingDominoModel$State;IIII)Z"⟩
def dkwX4_isPut_2 : List UInt8 := [21, 6, 21, 7, 182, 1, 54, 154, 0, 5, 3, 172, 43, 28, 21, 6, 21, 7, 182, 1, 108, 4, 172]
abbrev dktX4_isPut_2 : List UInt8 := dkwX4_isPut_2 ++ []
def dkwX4_isPut_1 : List UInt8 := [180, 0, 35, 180, 0, 245, 184, 1, 105, 96, 54, 6, 21, 5, 16, 6, 184, 1, 105, 54, 7, 42, 43, 28]
abbrev dktX4_isPut_1 : List UInt8 := dkwX4_isPut_1 ++ dktX4_isPut_2
def dkwX4_isPut_0 : List UInt8 := [21, 4, 42, 180, 0, 35, 180, 0, 248, 184, 1, 105, 42, 180, 0, 35, 180, 0, 245, 104, 29, 42]
abbrev dktX4_isPut_0 : List UInt8 := dkwX4_isPut_0 ++ dktX4_isPut_1
theorem dksX4_isPut_0 : cX4_isPut.data.toList.drop 0 = dktX4_isPut_0 := by decide +kernel
theorem dksX4_isPut_1 : cX4_isPut.data.toList.drop 22 = dktX4_isPut_1 := dk_seg dksX4_isPut_0 22 rfl rfl
theorem dksX4_isPut_2 : cX4_isPut.data.toList.drop 46 = dktX4_isPut_2 := dk_seg dksX4_isPut_1 24 rfl rfl
theorem dX4_isPut_0 : decode cX4_isPut 0 = .ok (.iload 4, 2) := dk_21 4 (dk_at dksX4_isPut_0 0 rfl rfl)
theorem dX4_isPut_2 : decode cX4_isPut 2 = .ok (.aload_n 0, 1) := dk_42 (dk_at dksX4_isPut_0 2 rfl rfl)
theorem dX4_isPut_3 : decode cX4_isPut 3 = .ok (.getfield 35, 3) := dk_180 0 35 (dk_at dksX4_isPut_0 3 rfl rfl)
theorem dX4_isPut_6 : decode cX4_isPut 6 = .ok (.getfield 248, 3) := dk_180 0 248 (dk_at dksX4_isPut_0 6 rfl rfl)
theorem dX4_isPut_9 : decode cX4_isPut 9 = .ok (.invokestatic 361, 3) := dk_184 1 105 (dk_at dksX4_isPut_0 9 rfl rfl)
theorem dX4_isPut_12 : decode cX4_isPut 12 = .ok (.aload_n 0, 1) := dk_42 (dk_at dksX4_isPut_0 12 rfl rfl)
theorem dX4_isPut_13 : decode cX4_isPut 13 = .ok (.getfield 35, 3) := dk_180 0 35 (dk_at dksX4_isPut_0 13 rfl rfl)
theorem dX4_isPut_16 : decode cX4_isPut 16 = .ok (.getfield 245, 3) := dk_180 0 245 (dk_at dksX4_isPut_0 16 rfl rfl)
theorem dX4_isPut_19 : decode cX4_isPut 19 = .ok (.imul, 1) := dk_104 (dk_at dksX4_isPut_0 19 rfl rfl)
theorem dX4_isPut_20 : decode cX4_isPut 20 = .ok (.iload_n 3, 1) := dk_29 (dk_at dksX4_isPut_0 20 rfl rfl)
theorem dX4_isPut_21 : decode cX4_isPut 21 = .ok (.aload_n 0, 1) := dk_42 (dk_at dksX4_isPut_0 21 rfl rfl)
theorem dX4_isPut_22 : decode cX4_isPut 22 = .ok (.getfield 35, 3) := dk_180 0 35 (dk_at dksX4_isPut_1 0 rfl rfl)
theorem dX4_isPut_25 : decode cX4_isPut 25 = .ok (.getfield 245, 3) := dk_180 0 245 (dk_at dksX4_isPut_1 3 rfl rfl)
theorem dX4_isPut_28 : decode cX4_isPut 28 = .ok (.invokestatic 361, 3) := dk_184 1 105 (dk_at dksX4_isPut_1 6 rfl rfl)
theorem dX4_isPut_31 : decode cX4_isPut 31 = .ok (.iadd, 1) := dk_96 (dk_at dksX4_isPut_1 9 rfl rfl)
theorem dX4_isPut_32 : decode cX4_isPut 32 = .ok (.istore 6, 2) := dk_54 6 (dk_at dksX4_isPut_1 10 rfl rfl)
theorem dX4_isPut_34 : decode cX4_isPut 34 = .ok (.iload 5, 2) := dk_21 5 (dk_at dksX4_isPut_1 12 rfl rfl)
theorem dX4_isPut_36 : decode cX4_isPut 36 = .ok (.bipush 6, 2) := dk_16 6 (dk_at dksX4_isPut_1 14 rfl rfl)
theorem dX4_isPut_38 : decode cX4_isPut 38 = .ok (.invokestatic 361, 3) := dk_184 1 105 (dk_at dksX4_isPut_1 16 rfl rfl)
theorem dX4_isPut_41 : decode cX4_isPut 41 = .ok (.istore 7, 2) := dk_54 7 (dk_at dksX4_isPut_1 19 rfl rfl)
theorem dX4_isPut_43 : decode cX4_isPut 43 = .ok (.aload_n 0, 1) := dk_42 (dk_at dksX4_isPut_1 21 rfl rfl)
theorem dX4_isPut_44 : decode cX4_isPut 44 = .ok (.aload_n 1, 1) := dk_43 (dk_at dksX4_isPut_1 22 rfl rfl)
theorem dX4_isPut_45 : decode cX4_isPut 45 = .ok (.iload_n 2, 1) := dk_28 (dk_at dksX4_isPut_1 23 rfl rfl)
theorem dX4_isPut_46 : decode cX4_isPut 46 = .ok (.iload 6, 2) := dk_21 6 (dk_at dksX4_isPut_2 0 rfl rfl)
theorem dX4_isPut_48 : decode cX4_isPut 48 = .ok (.iload 7, 2) := dk_21 7 (dk_at dksX4_isPut_2 2 rfl rfl)
theorem dX4_isPut_50 : decode cX4_isPut 50 = .ok (.invokevirtual 310, 3) := dk_182 1 54 (dk_at dksX4_isPut_2 4 rfl rfl)
theorem dX4_isPut_53 : decode cX4_isPut 53 = .ok (.ifCond .ne 5, 3) := dk_154 0 5 (dk_at dksX4_isPut_2 7 rfl rfl)
theorem dX4_isPut_56 : decode cX4_isPut 56 = .ok (.iconst 0, 1) := dk_3 (dk_at dksX4_isPut_2 10 rfl rfl)
theorem dX4_isPut_57 : decode cX4_isPut 57 = .ok (.ireturn, 1) := dk_172 (dk_at dksX4_isPut_2 11 rfl rfl)
theorem dX4_isPut_58 : decode cX4_isPut 58 = .ok (.aload_n 1, 1) := dk_43 (dk_at dksX4_isPut_2 12 rfl rfl)
theorem dX4_isPut_59 : decode cX4_isPut 59 = .ok (.iload_n 2, 1) := dk_28 (dk_at dksX4_isPut_2 13 rfl rfl)
theorem dX4_isPut_60 : decode cX4_isPut 60 = .ok (.iload 6, 2) := dk_21 6 (dk_at dksX4_isPut_2 14 rfl rfl)
theorem dX4_isPut_62 : decode cX4_isPut 62 = .ok (.iload 7, 2) := dk_21 7 (dk_at dksX4_isPut_2 16 rfl rfl)
theorem dX4_isPut_64 : decode cX4_isPut 64 = .ok (.invokevirtual 364, 3) := dk_182 1 108 (dk_at dksX4_isPut_2 18 rfl rfl)
theorem dX4_isPut_67 : decode cX4_isPut 67 = .ok (.iconst 1, 1) := dk_4 (dk_at dksX4_isPut_2 21 rfl rfl)
theorem dX4_isPut_68 : decode cX4_isPut 68 = .ok (.ireturn, 1) := dk_172 (dk_at dksX4_isPut_2 22 rfl rfl)
abbrev cX4_pointsAfter : ByteArray := prog_45_method_103_code
def yX4_pointsAfter : MethodName := ⟨RX4, "pointsAfter", "(I)I"⟩
def dkwX4_pointsAfter_2 : List UInt8 := [182, 1, 156, 87, 132, 2, 1, 167, 255, 239, 42, 42, 180, 0, 52, 182, 1, 93, 172]
abbrev dktX4_pointsAfter_2 : List UInt8 := dkwX4_pointsAfter_2 ++ []
def dkwX4_pointsAfter_1 : List UInt8 := [180, 0, 52, 42, 180, 0, 48, 182, 1, 159, 3, 61, 28, 27, 162, 0, 18, 42, 42, 180, 0, 52]
abbrev dktX4_pointsAfter_1 : List UInt8 := dkwX4_pointsAfter_1 ++ dktX4_pointsAfter_2
def dkwX4_pointsAfter_0 : List UInt8 := [42, 3, 181, 0, 65, 27, 4, 16, 20, 184, 0, 68, 154, 0, 9, 42, 4, 182, 0, 254, 172, 42]
abbrev dktX4_pointsAfter_0 : List UInt8 := dkwX4_pointsAfter_0 ++ dktX4_pointsAfter_1
theorem dksX4_pointsAfter_0 : cX4_pointsAfter.data.toList.drop 0 = dktX4_pointsAfter_0 := by decide +kernel
theorem dksX4_pointsAfter_1 : cX4_pointsAfter.data.toList.drop 22 = dktX4_pointsAfter_1 := dk_seg dksX4_pointsAfter_0 22 rfl rfl
theorem dksX4_pointsAfter_2 : cX4_pointsAfter.data.toList.drop 44 = dktX4_pointsAfter_2 := dk_seg dksX4_pointsAfter_1 22 rfl rfl
theorem dX4_pointsAfter_0 : decode cX4_pointsAfter 0 = .ok (.aload_n 0, 1) := dk_42 (dk_at dksX4_pointsAfter_0 0 rfl rfl)
theorem dX4_pointsAfter_1 : decode cX4_pointsAfter 1 = .ok (.iconst 0, 1) := dk_3 (dk_at dksX4_pointsAfter_0 1 rfl rfl)
theorem dX4_pointsAfter_2 : decode cX4_pointsAfter 2 = .ok (.putfield 65, 3) := dk_181 0 65 (dk_at dksX4_pointsAfter_0 2 rfl rfl)
theorem dX4_pointsAfter_5 : decode cX4_pointsAfter 5 = .ok (.iload_n 1, 1) := dk_27 (dk_at dksX4_pointsAfter_0 5 rfl rfl)
theorem dX4_pointsAfter_6 : decode cX4_pointsAfter 6 = .ok (.iconst 1, 1) := dk_4 (dk_at dksX4_pointsAfter_0 6 rfl rfl)
theorem dX4_pointsAfter_7 : decode cX4_pointsAfter 7 = .ok (.bipush 20, 2) := dk_16 20 (dk_at dksX4_pointsAfter_0 7 rfl rfl)
theorem dX4_pointsAfter_9 : decode cX4_pointsAfter 9 = .ok (.invokestatic 68, 3) := dk_184 0 68 (dk_at dksX4_pointsAfter_0 9 rfl rfl)
theorem dX4_pointsAfter_12 : decode cX4_pointsAfter 12 = .ok (.ifCond .ne 9, 3) := dk_154 0 9 (dk_at dksX4_pointsAfter_0 12 rfl rfl)
theorem dX4_pointsAfter_15 : decode cX4_pointsAfter 15 = .ok (.aload_n 0, 1) := dk_42 (dk_at dksX4_pointsAfter_0 15 rfl rfl)
theorem dX4_pointsAfter_16 : decode cX4_pointsAfter 16 = .ok (.iconst 1, 1) := dk_4 (dk_at dksX4_pointsAfter_0 16 rfl rfl)
theorem dX4_pointsAfter_17 : decode cX4_pointsAfter 17 = .ok (.invokevirtual 254, 3) := dk_182 0 254 (dk_at dksX4_pointsAfter_0 17 rfl rfl)
theorem dX4_pointsAfter_20 : decode cX4_pointsAfter 20 = .ok (.ireturn, 1) := dk_172 (dk_at dksX4_pointsAfter_0 20 rfl rfl)
theorem dX4_pointsAfter_21 : decode cX4_pointsAfter 21 = .ok (.aload_n 0, 1) := dk_42 (dk_at dksX4_pointsAfter_0 21 rfl rfl)
theorem dX4_pointsAfter_22 : decode cX4_pointsAfter 22 = .ok (.getfield 52, 3) := dk_180 0 52 (dk_at dksX4_pointsAfter_1 0 rfl rfl)
theorem dX4_pointsAfter_25 : decode cX4_pointsAfter 25 = .ok (.aload_n 0, 1) := dk_42 (dk_at dksX4_pointsAfter_1 3 rfl rfl)
theorem dX4_pointsAfter_26 : decode cX4_pointsAfter 26 = .ok (.getfield 48, 3) := dk_180 0 48 (dk_at dksX4_pointsAfter_1 4 rfl rfl)
theorem dX4_pointsAfter_29 : decode cX4_pointsAfter 29 = .ok (.invokevirtual 415, 3) := dk_182 1 159 (dk_at dksX4_pointsAfter_1 7 rfl rfl)
theorem dX4_pointsAfter_32 : decode cX4_pointsAfter 32 = .ok (.iconst 0, 1) := dk_3 (dk_at dksX4_pointsAfter_1 10 rfl rfl)
theorem dX4_pointsAfter_33 : decode cX4_pointsAfter 33 = .ok (.istore_n 2, 1) := dk_61 (dk_at dksX4_pointsAfter_1 11 rfl rfl)
theorem dX4_pointsAfter_34 : decode cX4_pointsAfter 34 = .ok (.iload_n 2, 1) := dk_28 (dk_at dksX4_pointsAfter_1 12 rfl rfl)
theorem dX4_pointsAfter_35 : decode cX4_pointsAfter 35 = .ok (.iload_n 1, 1) := dk_27 (dk_at dksX4_pointsAfter_1 13 rfl rfl)
theorem dX4_pointsAfter_36 : decode cX4_pointsAfter 36 = .ok (.if_icmp .ge 18, 3) := dk_162 0 18 (dk_at dksX4_pointsAfter_1 14 rfl rfl)
theorem dX4_pointsAfter_39 : decode cX4_pointsAfter 39 = .ok (.aload_n 0, 1) := dk_42 (dk_at dksX4_pointsAfter_1 17 rfl rfl)
theorem dX4_pointsAfter_40 : decode cX4_pointsAfter 40 = .ok (.aload_n 0, 1) := dk_42 (dk_at dksX4_pointsAfter_1 18 rfl rfl)
theorem dX4_pointsAfter_41 : decode cX4_pointsAfter 41 = .ok (.getfield 52, 3) := dk_180 0 52 (dk_at dksX4_pointsAfter_1 19 rfl rfl)
theorem dX4_pointsAfter_44 : decode cX4_pointsAfter 44 = .ok (.invokevirtual 412, 3) := dk_182 1 156 (dk_at dksX4_pointsAfter_2 0 rfl rfl)
theorem dX4_pointsAfter_47 : decode cX4_pointsAfter 47 = .ok (.pop, 1) := dk_87 (dk_at dksX4_pointsAfter_2 3 rfl rfl)
theorem dX4_pointsAfter_48 : decode cX4_pointsAfter 48 = .ok (.iinc 2 1, 3) := dk_132 2 1 (dk_at dksX4_pointsAfter_2 4 rfl rfl)
theorem dX4_pointsAfter_51 : decode cX4_pointsAfter 51 = .ok (.goto (-17), 3) := dk_167 255 239 (dk_at dksX4_pointsAfter_2 7 rfl rfl)
theorem dX4_pointsAfter_54 : decode cX4_pointsAfter 54 = .ok (.aload_n 0, 1) := dk_42 (dk_at dksX4_pointsAfter_2 10 rfl rfl)
theorem dX4_pointsAfter_55 : decode cX4_pointsAfter 55 = .ok (.aload_n 0, 1) := dk_42 (dk_at dksX4_pointsAfter_2 11 rfl rfl)
theorem dX4_pointsAfter_56 : decode cX4_pointsAfter 56 = .ok (.getfield 52, 3) := dk_180 0 52 (dk_at dksX4_pointsAfter_2 12 rfl rfl)
theorem dX4_pointsAfter_59 : decode cX4_pointsAfter 59 = .ok (.invokevirtual 349, 3) := dk_182 1 93 (dk_at dksX4_pointsAfter_2 15 rfl rfl)
theorem dX4_pointsAfter_62 : decode cX4_pointsAfter 62 = .ok (.ireturn, 1) := dk_172 (dk_at dksX4_pointsAfter_2 18 rfl rfl)
abbrev cX4_roundsUntilRing : ByteArray := prog_45_method_104_code
def yX4_roundsUntilRing : MethodName := ⟨RX4, "roundsUntilRing", "()I"⟩
def dkwX4_roundsUntilRing_2 : List UInt8 := [132, 1, 1, 167, 255, 225, 2, 172]
abbrev dktX4_roundsUntilRing_2 : List UInt8 := dkwX4_roundsUntilRing_2 ++ []
def dkwX4_roundsUntilRing_1 : List UInt8 := [42, 42, 180, 0, 52, 182, 1, 69, 158, 0, 5, 27, 172, 42, 42, 180, 0, 52, 182, 1, 156, 87]
abbrev dktX4_roundsUntilRing_1 : List UInt8 := dkwX4_roundsUntilRing_1 ++ dktX4_roundsUntilRing_2
def dkwX4_roundsUntilRing_0 : List UInt8 := [42, 3, 181, 0, 65, 42, 180, 0, 52, 42, 180, 0, 48, 182, 1, 159, 3, 60, 27, 16, 20, 163, 0, 31]
abbrev dktX4_roundsUntilRing_0 : List UInt8 := dkwX4_roundsUntilRing_0 ++ dktX4_roundsUntilRing_1
theorem dksX4_roundsUntilRing_0 : cX4_roundsUntilRing.data.toList.drop 0 = dktX4_roundsUntilRing_0 := by decide +kernel
theorem dksX4_roundsUntilRing_1 : cX4_roundsUntilRing.data.toList.drop 24 = dktX4_roundsUntilRing_1 := dk_seg dksX4_roundsUntilRing_0 24 rfl rfl
theorem dksX4_roundsUntilRing_2 : cX4_roundsUntilRing.data.toList.drop 46 = dktX4_roundsUntilRing_2 := dk_seg dksX4_roundsUntilRing_1 22 rfl rfl
theorem dX4_roundsUntilRing_0 : decode cX4_roundsUntilRing 0 = .ok (.aload_n 0, 1) := dk_42 (dk_at dksX4_roundsUntilRing_0 0 rfl rfl)
theorem dX4_roundsUntilRing_1 : decode cX4_roundsUntilRing 1 = .ok (.iconst 0, 1) := dk_3 (dk_at dksX4_roundsUntilRing_0 1 rfl rfl)
theorem dX4_roundsUntilRing_2 : decode cX4_roundsUntilRing 2 = .ok (.putfield 65, 3) := dk_181 0 65 (dk_at dksX4_roundsUntilRing_0 2 rfl rfl)
theorem dX4_roundsUntilRing_5 : decode cX4_roundsUntilRing 5 = .ok (.aload_n 0, 1) := dk_42 (dk_at dksX4_roundsUntilRing_0 5 rfl rfl)
theorem dX4_roundsUntilRing_6 : decode cX4_roundsUntilRing 6 = .ok (.getfield 52, 3) := dk_180 0 52 (dk_at dksX4_roundsUntilRing_0 6 rfl rfl)
theorem dX4_roundsUntilRing_9 : decode cX4_roundsUntilRing 9 = .ok (.aload_n 0, 1) := dk_42 (dk_at dksX4_roundsUntilRing_0 9 rfl rfl)
theorem dX4_roundsUntilRing_10 : decode cX4_roundsUntilRing 10 = .ok (.getfield 48, 3) := dk_180 0 48 (dk_at dksX4_roundsUntilRing_0 10 rfl rfl)
theorem dX4_roundsUntilRing_13 : decode cX4_roundsUntilRing 13 = .ok (.invokevirtual 415, 3) := dk_182 1 159 (dk_at dksX4_roundsUntilRing_0 13 rfl rfl)
theorem dX4_roundsUntilRing_16 : decode cX4_roundsUntilRing 16 = .ok (.iconst 0, 1) := dk_3 (dk_at dksX4_roundsUntilRing_0 16 rfl rfl)
theorem dX4_roundsUntilRing_17 : decode cX4_roundsUntilRing 17 = .ok (.istore_n 1, 1) := dk_60 (dk_at dksX4_roundsUntilRing_0 17 rfl rfl)
theorem dX4_roundsUntilRing_18 : decode cX4_roundsUntilRing 18 = .ok (.iload_n 1, 1) := dk_27 (dk_at dksX4_roundsUntilRing_0 18 rfl rfl)
theorem dX4_roundsUntilRing_19 : decode cX4_roundsUntilRing 19 = .ok (.bipush 20, 2) := dk_16 20 (dk_at dksX4_roundsUntilRing_0 19 rfl rfl)
theorem dX4_roundsUntilRing_21 : decode cX4_roundsUntilRing 21 = .ok (.if_icmp .gt 31, 3) := dk_163 0 31 (dk_at dksX4_roundsUntilRing_0 21 rfl rfl)
theorem dX4_roundsUntilRing_24 : decode cX4_roundsUntilRing 24 = .ok (.aload_n 0, 1) := dk_42 (dk_at dksX4_roundsUntilRing_1 0 rfl rfl)
theorem dX4_roundsUntilRing_25 : decode cX4_roundsUntilRing 25 = .ok (.aload_n 0, 1) := dk_42 (dk_at dksX4_roundsUntilRing_1 1 rfl rfl)
theorem dX4_roundsUntilRing_26 : decode cX4_roundsUntilRing 26 = .ok (.getfield 52, 3) := dk_180 0 52 (dk_at dksX4_roundsUntilRing_1 2 rfl rfl)
theorem dX4_roundsUntilRing_29 : decode cX4_roundsUntilRing 29 = .ok (.invokevirtual 325, 3) := dk_182 1 69 (dk_at dksX4_roundsUntilRing_1 5 rfl rfl)
theorem dX4_roundsUntilRing_32 : decode cX4_roundsUntilRing 32 = .ok (.ifCond .le 5, 3) := dk_158 0 5 (dk_at dksX4_roundsUntilRing_1 8 rfl rfl)
theorem dX4_roundsUntilRing_35 : decode cX4_roundsUntilRing 35 = .ok (.iload_n 1, 1) := dk_27 (dk_at dksX4_roundsUntilRing_1 11 rfl rfl)
theorem dX4_roundsUntilRing_36 : decode cX4_roundsUntilRing 36 = .ok (.ireturn, 1) := dk_172 (dk_at dksX4_roundsUntilRing_1 12 rfl rfl)
theorem dX4_roundsUntilRing_37 : decode cX4_roundsUntilRing 37 = .ok (.aload_n 0, 1) := dk_42 (dk_at dksX4_roundsUntilRing_1 13 rfl rfl)
theorem dX4_roundsUntilRing_38 : decode cX4_roundsUntilRing 38 = .ok (.aload_n 0, 1) := dk_42 (dk_at dksX4_roundsUntilRing_1 14 rfl rfl)
theorem dX4_roundsUntilRing_39 : decode cX4_roundsUntilRing 39 = .ok (.getfield 52, 3) := dk_180 0 52 (dk_at dksX4_roundsUntilRing_1 15 rfl rfl)
theorem dX4_roundsUntilRing_42 : decode cX4_roundsUntilRing 42 = .ok (.invokevirtual 412, 3) := dk_182 1 156 (dk_at dksX4_roundsUntilRing_1 18 rfl rfl)
theorem dX4_roundsUntilRing_45 : decode cX4_roundsUntilRing 45 = .ok (.pop, 1) := dk_87 (dk_at dksX4_roundsUntilRing_1 21 rfl rfl)
theorem dX4_roundsUntilRing_46 : decode cX4_roundsUntilRing 46 = .ok (.iinc 1 1, 3) := dk_132 1 1 (dk_at dksX4_roundsUntilRing_2 0 rfl rfl)
theorem dX4_roundsUntilRing_49 : decode cX4_roundsUntilRing 49 = .ok (.goto (-31), 3) := dk_167 255 225 (dk_at dksX4_roundsUntilRing_2 3 rfl rfl)
theorem dX4_roundsUntilRing_52 : decode cX4_roundsUntilRing 52 = .ok (.iconst (-1), 1) := dk_2 (dk_at dksX4_roundsUntilRing_2 6 rfl rfl)
theorem dX4_roundsUntilRing_53 : decode cX4_roundsUntilRing 53 = .ok (.ireturn, 1) := dk_172 (dk_at dksX4_roundsUntilRing_2 7 rfl rfl)
abbrev cX4_bestCell : ByteArray := prog_45_method_105_code
def yX4_bestCell : MethodName := ⟨RX4, "bestCell", "(I)I"⟩
def dkwX4_bestCell_1 : List UInt8 := [27, 182, 1, 162, 153, 0, 10, 42, 180, 1, 81, 167, 0, 8, 42, 5, 182, 0, 254, 172]
abbrev dktX4_bestCell_1 : List UInt8 := dkwX4_bestCell_1 ++ []
def dkwX4_bestCell_0 : List UInt8 := [42, 3, 181, 0, 65, 42, 27, 182, 1, 144, 154, 0, 9, 42, 4, 182, 0, 254, 172, 42, 42, 180, 0, 48]
abbrev dktX4_bestCell_0 : List UInt8 := dkwX4_bestCell_0 ++ dktX4_bestCell_1
theorem dksX4_bestCell_0 : cX4_bestCell.data.toList.drop 0 = dktX4_bestCell_0 := by decide +kernel
theorem dksX4_bestCell_1 : cX4_bestCell.data.toList.drop 24 = dktX4_bestCell_1 := dk_seg dksX4_bestCell_0 24 rfl rfl
theorem dX4_bestCell_0 : decode cX4_bestCell 0 = .ok (.aload_n 0, 1) := dk_42 (dk_at dksX4_bestCell_0 0 rfl rfl)
theorem dX4_bestCell_1 : decode cX4_bestCell 1 = .ok (.iconst 0, 1) := dk_3 (dk_at dksX4_bestCell_0 1 rfl rfl)
theorem dX4_bestCell_2 : decode cX4_bestCell 2 = .ok (.putfield 65, 3) := dk_181 0 65 (dk_at dksX4_bestCell_0 2 rfl rfl)
theorem dX4_bestCell_5 : decode cX4_bestCell 5 = .ok (.aload_n 0, 1) := dk_42 (dk_at dksX4_bestCell_0 5 rfl rfl)
theorem dX4_bestCell_6 : decode cX4_bestCell 6 = .ok (.iload_n 1, 1) := dk_27 (dk_at dksX4_bestCell_0 6 rfl rfl)
theorem dX4_bestCell_7 : decode cX4_bestCell 7 = .ok (.invokevirtual 400, 3) := dk_182 1 144 (dk_at dksX4_bestCell_0 7 rfl rfl)
theorem dX4_bestCell_10 : decode cX4_bestCell 10 = .ok (.ifCond .ne 9, 3) := dk_154 0 9 (dk_at dksX4_bestCell_0 10 rfl rfl)
theorem dX4_bestCell_13 : decode cX4_bestCell 13 = .ok (.aload_n 0, 1) := dk_42 (dk_at dksX4_bestCell_0 13 rfl rfl)
theorem dX4_bestCell_14 : decode cX4_bestCell 14 = .ok (.iconst 1, 1) := dk_4 (dk_at dksX4_bestCell_0 14 rfl rfl)
theorem dX4_bestCell_15 : decode cX4_bestCell 15 = .ok (.invokevirtual 254, 3) := dk_182 0 254 (dk_at dksX4_bestCell_0 15 rfl rfl)
theorem dX4_bestCell_18 : decode cX4_bestCell 18 = .ok (.ireturn, 1) := dk_172 (dk_at dksX4_bestCell_0 18 rfl rfl)
theorem dX4_bestCell_19 : decode cX4_bestCell 19 = .ok (.aload_n 0, 1) := dk_42 (dk_at dksX4_bestCell_0 19 rfl rfl)
theorem dX4_bestCell_20 : decode cX4_bestCell 20 = .ok (.aload_n 0, 1) := dk_42 (dk_at dksX4_bestCell_0 20 rfl rfl)
theorem dX4_bestCell_21 : decode cX4_bestCell 21 = .ok (.getfield 48, 3) := dk_180 0 48 (dk_at dksX4_bestCell_0 21 rfl rfl)
theorem dX4_bestCell_24 : decode cX4_bestCell 24 = .ok (.iload_n 1, 1) := dk_27 (dk_at dksX4_bestCell_1 0 rfl rfl)
theorem dX4_bestCell_25 : decode cX4_bestCell 25 = .ok (.invokevirtual 418, 3) := dk_182 1 162 (dk_at dksX4_bestCell_1 1 rfl rfl)
theorem dX4_bestCell_28 : decode cX4_bestCell 28 = .ok (.ifCond .eq 10, 3) := dk_153 0 10 (dk_at dksX4_bestCell_1 4 rfl rfl)
theorem dX4_bestCell_31 : decode cX4_bestCell 31 = .ok (.aload_n 0, 1) := dk_42 (dk_at dksX4_bestCell_1 7 rfl rfl)
theorem dX4_bestCell_32 : decode cX4_bestCell 32 = .ok (.getfield 337, 3) := dk_180 1 81 (dk_at dksX4_bestCell_1 8 rfl rfl)
theorem dX4_bestCell_35 : decode cX4_bestCell 35 = .ok (.goto 8, 3) := dk_167 0 8 (dk_at dksX4_bestCell_1 11 rfl rfl)
theorem dX4_bestCell_38 : decode cX4_bestCell 38 = .ok (.aload_n 0, 1) := dk_42 (dk_at dksX4_bestCell_1 14 rfl rfl)
theorem dX4_bestCell_39 : decode cX4_bestCell 39 = .ok (.iconst 2, 1) := dk_5 (dk_at dksX4_bestCell_1 15 rfl rfl)
theorem dX4_bestCell_40 : decode cX4_bestCell 40 = .ok (.invokevirtual 254, 3) := dk_182 0 254 (dk_at dksX4_bestCell_1 16 rfl rfl)
theorem dX4_bestCell_43 : decode cX4_bestCell 43 = .ok (.ireturn, 1) := dk_172 (dk_at dksX4_bestCell_1 19 rfl rfl)
abbrev cX4_hasBest : ByteArray := prog_45_method_61_code
def yX4_hasBest : MethodName := ⟨RX4, "hasBest", "(LRingDominoModel$State;I)Z"⟩
def dkwX4_hasBest_4 : List UInt8 := [180, 1, 75, 2, 159, 0, 7, 4, 167, 0, 4, 3, 172]
abbrev dktX4_hasBest_4 : List UInt8 := dkwX4_hasBest_4 ++ []
def dkwX4_hasBest_3 : List UInt8 := [29, 181, 1, 81, 42, 21, 4, 181, 1, 84, 132, 4, 1, 167, 255, 191, 132, 3, 1, 167, 255, 174, 42]
abbrev dktX4_hasBest_3 : List UInt8 := dkwX4_hasBest_3 ++ dktX4_hasBest_4
def dkwX4_hasBest_2 : List UInt8 := [182, 1, 78, 54, 5, 21, 5, 42, 180, 1, 75, 163, 0, 6, 167, 0, 20, 42, 21, 5, 181, 1, 75, 42]
abbrev dktX4_hasBest_2 : List UInt8 := dkwX4_hasBest_2 ++ dktX4_hasBest_3
def dkwX4_hasBest_1 : List UInt8 := [162, 0, 64, 42, 43, 28, 29, 21, 4, 182, 1, 54, 154, 0, 6, 167, 0, 43, 42, 43, 28, 29, 21, 4]
abbrev dktX4_hasBest_1 : List UInt8 := dkwX4_hasBest_1 ++ dktX4_hasBest_2
def dkwX4_hasBest_0 : List UInt8 := [42, 2, 181, 1, 75, 3, 62, 29, 42, 182, 1, 51, 162, 0, 80, 3, 54, 4, 21, 4, 16, 6]
abbrev dktX4_hasBest_0 : List UInt8 := dkwX4_hasBest_0 ++ dktX4_hasBest_1
theorem dksX4_hasBest_0 : cX4_hasBest.data.toList.drop 0 = dktX4_hasBest_0 := by decide +kernel
theorem dksX4_hasBest_1 : cX4_hasBest.data.toList.drop 22 = dktX4_hasBest_1 := dk_seg dksX4_hasBest_0 22 rfl rfl
theorem dksX4_hasBest_2 : cX4_hasBest.data.toList.drop 46 = dktX4_hasBest_2 := dk_seg dksX4_hasBest_1 24 rfl rfl
theorem dksX4_hasBest_3 : cX4_hasBest.data.toList.drop 70 = dktX4_hasBest_3 := dk_seg dksX4_hasBest_2 24 rfl rfl
theorem dksX4_hasBest_4 : cX4_hasBest.data.toList.drop 93 = dktX4_hasBest_4 := dk_seg dksX4_hasBest_3 23 rfl rfl
theorem dX4_hasBest_0 : decode cX4_hasBest 0 = .ok (.aload_n 0, 1) := dk_42 (dk_at dksX4_hasBest_0 0 rfl rfl)
theorem dX4_hasBest_1 : decode cX4_hasBest 1 = .ok (.iconst (-1), 1) := dk_2 (dk_at dksX4_hasBest_0 1 rfl rfl)
theorem dX4_hasBest_2 : decode cX4_hasBest 2 = .ok (.putfield 331, 3) := dk_181 1 75 (dk_at dksX4_hasBest_0 2 rfl rfl)
theorem dX4_hasBest_5 : decode cX4_hasBest 5 = .ok (.iconst 0, 1) := dk_3 (dk_at dksX4_hasBest_0 5 rfl rfl)
theorem dX4_hasBest_6 : decode cX4_hasBest 6 = .ok (.istore_n 3, 1) := dk_62 (dk_at dksX4_hasBest_0 6 rfl rfl)
theorem dX4_hasBest_7 : decode cX4_hasBest 7 = .ok (.iload_n 3, 1) := dk_29 (dk_at dksX4_hasBest_0 7 rfl rfl)
theorem dX4_hasBest_8 : decode cX4_hasBest 8 = .ok (.aload_n 0, 1) := dk_42 (dk_at dksX4_hasBest_0 8 rfl rfl)
theorem dX4_hasBest_9 : decode cX4_hasBest 9 = .ok (.invokevirtual 307, 3) := dk_182 1 51 (dk_at dksX4_hasBest_0 9 rfl rfl)
theorem dX4_hasBest_12 : decode cX4_hasBest 12 = .ok (.if_icmp .ge 80, 3) := dk_162 0 80 (dk_at dksX4_hasBest_0 12 rfl rfl)
theorem dX4_hasBest_15 : decode cX4_hasBest 15 = .ok (.iconst 0, 1) := dk_3 (dk_at dksX4_hasBest_0 15 rfl rfl)
theorem dX4_hasBest_16 : decode cX4_hasBest 16 = .ok (.istore 4, 2) := dk_54 4 (dk_at dksX4_hasBest_0 16 rfl rfl)
theorem dX4_hasBest_18 : decode cX4_hasBest 18 = .ok (.iload 4, 2) := dk_21 4 (dk_at dksX4_hasBest_0 18 rfl rfl)
theorem dX4_hasBest_20 : decode cX4_hasBest 20 = .ok (.bipush 6, 2) := dk_16 6 (dk_at dksX4_hasBest_0 20 rfl rfl)
theorem dX4_hasBest_22 : decode cX4_hasBest 22 = .ok (.if_icmp .ge 64, 3) := dk_162 0 64 (dk_at dksX4_hasBest_1 0 rfl rfl)
theorem dX4_hasBest_25 : decode cX4_hasBest 25 = .ok (.aload_n 0, 1) := dk_42 (dk_at dksX4_hasBest_1 3 rfl rfl)
theorem dX4_hasBest_26 : decode cX4_hasBest 26 = .ok (.aload_n 1, 1) := dk_43 (dk_at dksX4_hasBest_1 4 rfl rfl)
theorem dX4_hasBest_27 : decode cX4_hasBest 27 = .ok (.iload_n 2, 1) := dk_28 (dk_at dksX4_hasBest_1 5 rfl rfl)
theorem dX4_hasBest_28 : decode cX4_hasBest 28 = .ok (.iload_n 3, 1) := dk_29 (dk_at dksX4_hasBest_1 6 rfl rfl)
theorem dX4_hasBest_29 : decode cX4_hasBest 29 = .ok (.iload 4, 2) := dk_21 4 (dk_at dksX4_hasBest_1 7 rfl rfl)
theorem dX4_hasBest_31 : decode cX4_hasBest 31 = .ok (.invokevirtual 310, 3) := dk_182 1 54 (dk_at dksX4_hasBest_1 9 rfl rfl)
theorem dX4_hasBest_34 : decode cX4_hasBest 34 = .ok (.ifCond .ne 6, 3) := dk_154 0 6 (dk_at dksX4_hasBest_1 12 rfl rfl)
theorem dX4_hasBest_37 : decode cX4_hasBest 37 = .ok (.goto 43, 3) := dk_167 0 43 (dk_at dksX4_hasBest_1 15 rfl rfl)
theorem dX4_hasBest_40 : decode cX4_hasBest 40 = .ok (.aload_n 0, 1) := dk_42 (dk_at dksX4_hasBest_1 18 rfl rfl)
theorem dX4_hasBest_41 : decode cX4_hasBest 41 = .ok (.aload_n 1, 1) := dk_43 (dk_at dksX4_hasBest_1 19 rfl rfl)
theorem dX4_hasBest_42 : decode cX4_hasBest 42 = .ok (.iload_n 2, 1) := dk_28 (dk_at dksX4_hasBest_1 20 rfl rfl)
theorem dX4_hasBest_43 : decode cX4_hasBest 43 = .ok (.iload_n 3, 1) := dk_29 (dk_at dksX4_hasBest_1 21 rfl rfl)
theorem dX4_hasBest_44 : decode cX4_hasBest 44 = .ok (.iload 4, 2) := dk_21 4 (dk_at dksX4_hasBest_1 22 rfl rfl)
theorem dX4_hasBest_46 : decode cX4_hasBest 46 = .ok (.invokevirtual 334, 3) := dk_182 1 78 (dk_at dksX4_hasBest_2 0 rfl rfl)
theorem dX4_hasBest_49 : decode cX4_hasBest 49 = .ok (.istore 5, 2) := dk_54 5 (dk_at dksX4_hasBest_2 3 rfl rfl)
theorem dX4_hasBest_51 : decode cX4_hasBest 51 = .ok (.iload 5, 2) := dk_21 5 (dk_at dksX4_hasBest_2 5 rfl rfl)
theorem dX4_hasBest_53 : decode cX4_hasBest 53 = .ok (.aload_n 0, 1) := dk_42 (dk_at dksX4_hasBest_2 7 rfl rfl)
theorem dX4_hasBest_54 : decode cX4_hasBest 54 = .ok (.getfield 331, 3) := dk_180 1 75 (dk_at dksX4_hasBest_2 8 rfl rfl)
theorem dX4_hasBest_57 : decode cX4_hasBest 57 = .ok (.if_icmp .gt 6, 3) := dk_163 0 6 (dk_at dksX4_hasBest_2 11 rfl rfl)
theorem dX4_hasBest_60 : decode cX4_hasBest 60 = .ok (.goto 20, 3) := dk_167 0 20 (dk_at dksX4_hasBest_2 14 rfl rfl)
theorem dX4_hasBest_63 : decode cX4_hasBest 63 = .ok (.aload_n 0, 1) := dk_42 (dk_at dksX4_hasBest_2 17 rfl rfl)
theorem dX4_hasBest_64 : decode cX4_hasBest 64 = .ok (.iload 5, 2) := dk_21 5 (dk_at dksX4_hasBest_2 18 rfl rfl)
theorem dX4_hasBest_66 : decode cX4_hasBest 66 = .ok (.putfield 331, 3) := dk_181 1 75 (dk_at dksX4_hasBest_2 20 rfl rfl)
theorem dX4_hasBest_69 : decode cX4_hasBest 69 = .ok (.aload_n 0, 1) := dk_42 (dk_at dksX4_hasBest_2 23 rfl rfl)
theorem dX4_hasBest_70 : decode cX4_hasBest 70 = .ok (.iload_n 3, 1) := dk_29 (dk_at dksX4_hasBest_3 0 rfl rfl)
theorem dX4_hasBest_71 : decode cX4_hasBest 71 = .ok (.putfield 337, 3) := dk_181 1 81 (dk_at dksX4_hasBest_3 1 rfl rfl)
theorem dX4_hasBest_74 : decode cX4_hasBest 74 = .ok (.aload_n 0, 1) := dk_42 (dk_at dksX4_hasBest_3 4 rfl rfl)
theorem dX4_hasBest_75 : decode cX4_hasBest 75 = .ok (.iload 4, 2) := dk_21 4 (dk_at dksX4_hasBest_3 5 rfl rfl)
theorem dX4_hasBest_77 : decode cX4_hasBest 77 = .ok (.putfield 340, 3) := dk_181 1 84 (dk_at dksX4_hasBest_3 7 rfl rfl)
theorem dX4_hasBest_80 : decode cX4_hasBest 80 = .ok (.iinc 4 1, 3) := dk_132 4 1 (dk_at dksX4_hasBest_3 10 rfl rfl)
theorem dX4_hasBest_83 : decode cX4_hasBest 83 = .ok (.goto (-65), 3) := dk_167 255 191 (dk_at dksX4_hasBest_3 13 rfl rfl)
theorem dX4_hasBest_86 : decode cX4_hasBest 86 = .ok (.iinc 3 1, 3) := dk_132 3 1 (dk_at dksX4_hasBest_3 16 rfl rfl)
theorem dX4_hasBest_89 : decode cX4_hasBest 89 = .ok (.goto (-82), 3) := dk_167 255 174 (dk_at dksX4_hasBest_3 19 rfl rfl)
theorem dX4_hasBest_92 : decode cX4_hasBest 92 = .ok (.aload_n 0, 1) := dk_42 (dk_at dksX4_hasBest_3 22 rfl rfl)
theorem dX4_hasBest_93 : decode cX4_hasBest 93 = .ok (.getfield 331, 3) := dk_180 1 75 (dk_at dksX4_hasBest_4 0 rfl rfl)
theorem dX4_hasBest_96 : decode cX4_hasBest 96 = .ok (.iconst (-1), 1) := dk_2 (dk_at dksX4_hasBest_4 3 rfl rfl)
theorem dX4_hasBest_97 : decode cX4_hasBest 97 = .ok (.if_icmp .eq 7, 3) := dk_159 0 7 (dk_at dksX4_hasBest_4 4 rfl rfl)
theorem dX4_hasBest_100 : decode cX4_hasBest 100 = .ok (.iconst 1, 1) := dk_4 (dk_at dksX4_hasBest_4 7 rfl rfl)
theorem dX4_hasBest_101 : decode cX4_hasBest 101 = .ok (.goto 4, 3) := dk_167 0 4 (dk_at dksX4_hasBest_4 8 rfl rfl)
theorem dX4_hasBest_104 : decode cX4_hasBest 104 = .ok (.iconst 0, 1) := dk_3 (dk_at dksX4_hasBest_4 11 rfl rfl)
theorem dX4_hasBest_105 : decode cX4_hasBest 105 = .ok (.ireturn, 1) := dk_172 (dk_at dksX4_hasBest_4 12 rfl rfl)
abbrev cX4_gain : ByteArray := prog_45_method_59_code
def yX4_gain : MethodName := ⟨RX4, "gain", "(LRingDominoModel$State;III)I"⟩
def dkwX4_gain_4 : List UInt8 := [182, 1, 72, 153, 0, 8, 16, 10, 167, 0, 4, 3, 96, 54, 5, 132, 6, 1, 167, 255, 158, 21, 5, 172]
abbrev dktX4_gain_4 : List UInt8 := dkwX4_gain_4 ++ []
def dkwX4_gain_3 : List UInt8 := [43, 21, 7, 182, 1, 43, 8, 160, 0, 27, 43, 180, 1, 24, 29, 46, 2, 160, 0, 17, 42, 21, 7]
abbrev dktX4_gain_3 : List UInt8 := dkwX4_gain_3 ++ dktX4_gain_4
def dkwX4_gain_2 : List UInt8 := [46, 2, 160, 0, 7, 3, 167, 0, 12, 42, 28, 21, 4, 21, 6, 182, 1, 30, 96, 54, 5, 21, 5, 42]
abbrev dktX4_gain_2 : List UInt8 := dkwX4_gain_2 ++ dktX4_gain_3
def dkwX4_gain_1 : List UInt8 := [21, 6, 182, 1, 21, 54, 7, 21, 7, 2, 160, 0, 6, 167, 0, 73, 21, 5, 43, 180, 1, 24, 21, 7]
abbrev dktX4_gain_1 : List UInt8 := dkwX4_gain_1 ++ dktX4_gain_2
def dkwX4_gain_0 : List UInt8 := [43, 180, 1, 40, 154, 0, 5, 3, 172, 3, 54, 5, 3, 54, 6, 21, 6, 16, 6, 162, 0, 97, 42, 29]
abbrev dktX4_gain_0 : List UInt8 := dkwX4_gain_0 ++ dktX4_gain_1
theorem dksX4_gain_0 : cX4_gain.data.toList.drop 0 = dktX4_gain_0 := by decide +kernel
theorem dksX4_gain_1 : cX4_gain.data.toList.drop 24 = dktX4_gain_1 := dk_seg dksX4_gain_0 24 rfl rfl
theorem dksX4_gain_2 : cX4_gain.data.toList.drop 48 = dktX4_gain_2 := dk_seg dksX4_gain_1 24 rfl rfl
theorem dksX4_gain_3 : cX4_gain.data.toList.drop 72 = dktX4_gain_3 := dk_seg dksX4_gain_2 24 rfl rfl
theorem dksX4_gain_4 : cX4_gain.data.toList.drop 95 = dktX4_gain_4 := dk_seg dksX4_gain_3 23 rfl rfl
theorem dX4_gain_0 : decode cX4_gain 0 = .ok (.aload_n 1, 1) := dk_43 (dk_at dksX4_gain_0 0 rfl rfl)
theorem dX4_gain_1 : decode cX4_gain 1 = .ok (.getfield 296, 3) := dk_180 1 40 (dk_at dksX4_gain_0 1 rfl rfl)
theorem dX4_gain_4 : decode cX4_gain 4 = .ok (.ifCond .ne 5, 3) := dk_154 0 5 (dk_at dksX4_gain_0 4 rfl rfl)
theorem dX4_gain_7 : decode cX4_gain 7 = .ok (.iconst 0, 1) := dk_3 (dk_at dksX4_gain_0 7 rfl rfl)
theorem dX4_gain_8 : decode cX4_gain 8 = .ok (.ireturn, 1) := dk_172 (dk_at dksX4_gain_0 8 rfl rfl)
theorem dX4_gain_9 : decode cX4_gain 9 = .ok (.iconst 0, 1) := dk_3 (dk_at dksX4_gain_0 9 rfl rfl)
theorem dX4_gain_10 : decode cX4_gain 10 = .ok (.istore 5, 2) := dk_54 5 (dk_at dksX4_gain_0 10 rfl rfl)
theorem dX4_gain_12 : decode cX4_gain 12 = .ok (.iconst 0, 1) := dk_3 (dk_at dksX4_gain_0 12 rfl rfl)
theorem dX4_gain_13 : decode cX4_gain 13 = .ok (.istore 6, 2) := dk_54 6 (dk_at dksX4_gain_0 13 rfl rfl)
theorem dX4_gain_15 : decode cX4_gain 15 = .ok (.iload 6, 2) := dk_21 6 (dk_at dksX4_gain_0 15 rfl rfl)
theorem dX4_gain_17 : decode cX4_gain 17 = .ok (.bipush 6, 2) := dk_16 6 (dk_at dksX4_gain_0 17 rfl rfl)
theorem dX4_gain_19 : decode cX4_gain 19 = .ok (.if_icmp .ge 97, 3) := dk_162 0 97 (dk_at dksX4_gain_0 19 rfl rfl)
theorem dX4_gain_22 : decode cX4_gain 22 = .ok (.aload_n 0, 1) := dk_42 (dk_at dksX4_gain_0 22 rfl rfl)
theorem dX4_gain_23 : decode cX4_gain 23 = .ok (.iload_n 3, 1) := dk_29 (dk_at dksX4_gain_0 23 rfl rfl)
theorem dX4_gain_24 : decode cX4_gain 24 = .ok (.iload 6, 2) := dk_21 6 (dk_at dksX4_gain_1 0 rfl rfl)
theorem dX4_gain_26 : decode cX4_gain 26 = .ok (.invokevirtual 277, 3) := dk_182 1 21 (dk_at dksX4_gain_1 2 rfl rfl)
theorem dX4_gain_29 : decode cX4_gain 29 = .ok (.istore 7, 2) := dk_54 7 (dk_at dksX4_gain_1 5 rfl rfl)
theorem dX4_gain_31 : decode cX4_gain 31 = .ok (.iload 7, 2) := dk_21 7 (dk_at dksX4_gain_1 7 rfl rfl)
theorem dX4_gain_33 : decode cX4_gain 33 = .ok (.iconst (-1), 1) := dk_2 (dk_at dksX4_gain_1 9 rfl rfl)
theorem dX4_gain_34 : decode cX4_gain 34 = .ok (.if_icmp .ne 6, 3) := dk_160 0 6 (dk_at dksX4_gain_1 10 rfl rfl)
theorem dX4_gain_37 : decode cX4_gain 37 = .ok (.goto 73, 3) := dk_167 0 73 (dk_at dksX4_gain_1 13 rfl rfl)
theorem dX4_gain_40 : decode cX4_gain 40 = .ok (.iload 5, 2) := dk_21 5 (dk_at dksX4_gain_1 16 rfl rfl)
theorem dX4_gain_42 : decode cX4_gain 42 = .ok (.aload_n 1, 1) := dk_43 (dk_at dksX4_gain_1 18 rfl rfl)
theorem dX4_gain_43 : decode cX4_gain 43 = .ok (.getfield 280, 3) := dk_180 1 24 (dk_at dksX4_gain_1 19 rfl rfl)
theorem dX4_gain_46 : decode cX4_gain 46 = .ok (.iload 7, 2) := dk_21 7 (dk_at dksX4_gain_1 22 rfl rfl)
theorem dX4_gain_48 : decode cX4_gain 48 = .ok (.iaload, 1) := dk_46 (dk_at dksX4_gain_2 0 rfl rfl)
theorem dX4_gain_49 : decode cX4_gain 49 = .ok (.iconst (-1), 1) := dk_2 (dk_at dksX4_gain_2 1 rfl rfl)
theorem dX4_gain_50 : decode cX4_gain 50 = .ok (.if_icmp .ne 7, 3) := dk_160 0 7 (dk_at dksX4_gain_2 2 rfl rfl)
theorem dX4_gain_53 : decode cX4_gain 53 = .ok (.iconst 0, 1) := dk_3 (dk_at dksX4_gain_2 5 rfl rfl)
theorem dX4_gain_54 : decode cX4_gain 54 = .ok (.goto 12, 3) := dk_167 0 12 (dk_at dksX4_gain_2 6 rfl rfl)
theorem dX4_gain_57 : decode cX4_gain 57 = .ok (.aload_n 0, 1) := dk_42 (dk_at dksX4_gain_2 9 rfl rfl)
theorem dX4_gain_58 : decode cX4_gain 58 = .ok (.iload_n 2, 1) := dk_28 (dk_at dksX4_gain_2 10 rfl rfl)
theorem dX4_gain_59 : decode cX4_gain 59 = .ok (.iload 4, 2) := dk_21 4 (dk_at dksX4_gain_2 11 rfl rfl)
theorem dX4_gain_61 : decode cX4_gain 61 = .ok (.iload 6, 2) := dk_21 6 (dk_at dksX4_gain_2 13 rfl rfl)
theorem dX4_gain_63 : decode cX4_gain 63 = .ok (.invokevirtual 286, 3) := dk_182 1 30 (dk_at dksX4_gain_2 15 rfl rfl)
theorem dX4_gain_66 : decode cX4_gain 66 = .ok (.iadd, 1) := dk_96 (dk_at dksX4_gain_2 18 rfl rfl)
theorem dX4_gain_67 : decode cX4_gain 67 = .ok (.istore 5, 2) := dk_54 5 (dk_at dksX4_gain_2 19 rfl rfl)
theorem dX4_gain_69 : decode cX4_gain 69 = .ok (.iload 5, 2) := dk_21 5 (dk_at dksX4_gain_2 21 rfl rfl)
theorem dX4_gain_71 : decode cX4_gain 71 = .ok (.aload_n 0, 1) := dk_42 (dk_at dksX4_gain_2 23 rfl rfl)
theorem dX4_gain_72 : decode cX4_gain 72 = .ok (.aload_n 1, 1) := dk_43 (dk_at dksX4_gain_3 0 rfl rfl)
theorem dX4_gain_73 : decode cX4_gain 73 = .ok (.iload 7, 2) := dk_21 7 (dk_at dksX4_gain_3 1 rfl rfl)
theorem dX4_gain_75 : decode cX4_gain 75 = .ok (.invokevirtual 299, 3) := dk_182 1 43 (dk_at dksX4_gain_3 3 rfl rfl)
theorem dX4_gain_78 : decode cX4_gain 78 = .ok (.iconst 5, 1) := dk_8 (dk_at dksX4_gain_3 6 rfl rfl)
theorem dX4_gain_79 : decode cX4_gain 79 = .ok (.if_icmp .ne 27, 3) := dk_160 0 27 (dk_at dksX4_gain_3 7 rfl rfl)
theorem dX4_gain_82 : decode cX4_gain 82 = .ok (.aload_n 1, 1) := dk_43 (dk_at dksX4_gain_3 10 rfl rfl)
theorem dX4_gain_83 : decode cX4_gain 83 = .ok (.getfield 280, 3) := dk_180 1 24 (dk_at dksX4_gain_3 11 rfl rfl)
theorem dX4_gain_86 : decode cX4_gain 86 = .ok (.iload_n 3, 1) := dk_29 (dk_at dksX4_gain_3 14 rfl rfl)
theorem dX4_gain_87 : decode cX4_gain 87 = .ok (.iaload, 1) := dk_46 (dk_at dksX4_gain_3 15 rfl rfl)
theorem dX4_gain_88 : decode cX4_gain 88 = .ok (.iconst (-1), 1) := dk_2 (dk_at dksX4_gain_3 16 rfl rfl)
theorem dX4_gain_89 : decode cX4_gain 89 = .ok (.if_icmp .ne 17, 3) := dk_160 0 17 (dk_at dksX4_gain_3 17 rfl rfl)
theorem dX4_gain_92 : decode cX4_gain 92 = .ok (.aload_n 0, 1) := dk_42 (dk_at dksX4_gain_3 20 rfl rfl)
theorem dX4_gain_93 : decode cX4_gain 93 = .ok (.iload 7, 2) := dk_21 7 (dk_at dksX4_gain_3 21 rfl rfl)
theorem dX4_gain_95 : decode cX4_gain 95 = .ok (.invokevirtual 328, 3) := dk_182 1 72 (dk_at dksX4_gain_4 0 rfl rfl)
theorem dX4_gain_98 : decode cX4_gain 98 = .ok (.ifCond .eq 8, 3) := dk_153 0 8 (dk_at dksX4_gain_4 3 rfl rfl)
theorem dX4_gain_101 : decode cX4_gain 101 = .ok (.bipush 10, 2) := dk_16 10 (dk_at dksX4_gain_4 6 rfl rfl)
theorem dX4_gain_103 : decode cX4_gain 103 = .ok (.goto 4, 3) := dk_167 0 4 (dk_at dksX4_gain_4 8 rfl rfl)
theorem dX4_gain_106 : decode cX4_gain 106 = .ok (.iconst 0, 1) := dk_3 (dk_at dksX4_gain_4 11 rfl rfl)
theorem dX4_gain_107 : decode cX4_gain 107 = .ok (.iadd, 1) := dk_96 (dk_at dksX4_gain_4 12 rfl rfl)
theorem dX4_gain_108 : decode cX4_gain 108 = .ok (.istore 5, 2) := dk_54 5 (dk_at dksX4_gain_4 13 rfl rfl)
theorem dX4_gain_110 : decode cX4_gain 110 = .ok (.iinc 6 1, 3) := dk_132 6 1 (dk_at dksX4_gain_4 15 rfl rfl)
theorem dX4_gain_113 : decode cX4_gain 113 = .ok (.goto (-98), 3) := dk_167 255 158 (dk_at dksX4_gain_4 18 rfl rfl)
theorem dX4_gain_116 : decode cX4_gain 116 = .ok (.iload 5, 2) := dk_21 5 (dk_at dksX4_gain_4 21 rfl rfl)
theorem dX4_gain_118 : decode cX4_gain 118 = .ok (.ireturn, 1) := dk_172 (dk_at dksX4_gain_4 23 rfl rfl)
abbrev cX4_isInside : ByteArray := prog_45_method_60_code
def yX4_isInside : MethodName := ⟨RX4, "isInside", "(I)Z"⟩
def dkwX4_isInside_1 : List UInt8 := [167, 255, 235, 4, 172]
abbrev dktX4_isInside_1 : List UInt8 := dkwX4_isInside_1 ++ []
def dkwX4_isInside_0 : List UInt8 := [3, 61, 28, 16, 6, 162, 0, 21, 42, 27, 28, 182, 1, 21, 2, 160, 0, 5, 3, 172, 132, 2, 1]
abbrev dktX4_isInside_0 : List UInt8 := dkwX4_isInside_0 ++ dktX4_isInside_1
theorem dksX4_isInside_0 : cX4_isInside.data.toList.drop 0 = dktX4_isInside_0 := by decide +kernel
theorem dksX4_isInside_1 : cX4_isInside.data.toList.drop 23 = dktX4_isInside_1 := dk_seg dksX4_isInside_0 23 rfl rfl
theorem dX4_isInside_0 : decode cX4_isInside 0 = .ok (.iconst 0, 1) := dk_3 (dk_at dksX4_isInside_0 0 rfl rfl)
theorem dX4_isInside_1 : decode cX4_isInside 1 = .ok (.istore_n 2, 1) := dk_61 (dk_at dksX4_isInside_0 1 rfl rfl)
theorem dX4_isInside_2 : decode cX4_isInside 2 = .ok (.iload_n 2, 1) := dk_28 (dk_at dksX4_isInside_0 2 rfl rfl)
theorem dX4_isInside_3 : decode cX4_isInside 3 = .ok (.bipush 6, 2) := dk_16 6 (dk_at dksX4_isInside_0 3 rfl rfl)
theorem dX4_isInside_5 : decode cX4_isInside 5 = .ok (.if_icmp .ge 21, 3) := dk_162 0 21 (dk_at dksX4_isInside_0 5 rfl rfl)
theorem dX4_isInside_8 : decode cX4_isInside 8 = .ok (.aload_n 0, 1) := dk_42 (dk_at dksX4_isInside_0 8 rfl rfl)
theorem dX4_isInside_9 : decode cX4_isInside 9 = .ok (.iload_n 1, 1) := dk_27 (dk_at dksX4_isInside_0 9 rfl rfl)
theorem dX4_isInside_10 : decode cX4_isInside 10 = .ok (.iload_n 2, 1) := dk_28 (dk_at dksX4_isInside_0 10 rfl rfl)
theorem dX4_isInside_11 : decode cX4_isInside 11 = .ok (.invokevirtual 277, 3) := dk_182 1 21 (dk_at dksX4_isInside_0 11 rfl rfl)
theorem dX4_isInside_14 : decode cX4_isInside 14 = .ok (.iconst (-1), 1) := dk_2 (dk_at dksX4_isInside_0 14 rfl rfl)
theorem dX4_isInside_15 : decode cX4_isInside 15 = .ok (.if_icmp .ne 5, 3) := dk_160 0 5 (dk_at dksX4_isInside_0 15 rfl rfl)
theorem dX4_isInside_18 : decode cX4_isInside 18 = .ok (.iconst 0, 1) := dk_3 (dk_at dksX4_isInside_0 18 rfl rfl)
theorem dX4_isInside_19 : decode cX4_isInside 19 = .ok (.ireturn, 1) := dk_172 (dk_at dksX4_isInside_0 19 rfl rfl)
theorem dX4_isInside_20 : decode cX4_isInside 20 = .ok (.iinc 2 1, 3) := dk_132 2 1 (dk_at dksX4_isInside_0 20 rfl rfl)
theorem dX4_isInside_23 : decode cX4_isInside 23 = .ok (.goto (-21), 3) := dk_167 255 235 (dk_at dksX4_isInside_1 0 rfl rfl)
theorem dX4_isInside_26 : decode cX4_isInside 26 = .ok (.iconst 1, 1) := dk_4 (dk_at dksX4_isInside_1 3 rfl rfl)
theorem dX4_isInside_27 : decode cX4_isInside 27 = .ok (.ireturn, 1) := dk_172 (dk_at dksX4_isInside_1 4 rfl rfl)
abbrev cX4_bestTurn : ByteArray := prog_45_method_106_code
def yX4_bestTurn : MethodName := ⟨RX4, "bestTurn", "(I)I"⟩
def dkwX4_bestTurn_1 : List UInt8 := [27, 182, 1, 162, 153, 0, 10, 42, 180, 1, 84, 167, 0, 8, 42, 5, 182, 0, 254, 172]
abbrev dktX4_bestTurn_1 : List UInt8 := dkwX4_bestTurn_1 ++ []
def dkwX4_bestTurn_0 : List UInt8 := [42, 3, 181, 0, 65, 42, 27, 182, 1, 144, 154, 0, 9, 42, 4, 182, 0, 254, 172, 42, 42, 180, 0, 48]
abbrev dktX4_bestTurn_0 : List UInt8 := dkwX4_bestTurn_0 ++ dktX4_bestTurn_1
theorem dksX4_bestTurn_0 : cX4_bestTurn.data.toList.drop 0 = dktX4_bestTurn_0 := by decide +kernel
theorem dksX4_bestTurn_1 : cX4_bestTurn.data.toList.drop 24 = dktX4_bestTurn_1 := dk_seg dksX4_bestTurn_0 24 rfl rfl
theorem dX4_bestTurn_0 : decode cX4_bestTurn 0 = .ok (.aload_n 0, 1) := dk_42 (dk_at dksX4_bestTurn_0 0 rfl rfl)
theorem dX4_bestTurn_1 : decode cX4_bestTurn 1 = .ok (.iconst 0, 1) := dk_3 (dk_at dksX4_bestTurn_0 1 rfl rfl)
theorem dX4_bestTurn_2 : decode cX4_bestTurn 2 = .ok (.putfield 65, 3) := dk_181 0 65 (dk_at dksX4_bestTurn_0 2 rfl rfl)
theorem dX4_bestTurn_5 : decode cX4_bestTurn 5 = .ok (.aload_n 0, 1) := dk_42 (dk_at dksX4_bestTurn_0 5 rfl rfl)
theorem dX4_bestTurn_6 : decode cX4_bestTurn 6 = .ok (.iload_n 1, 1) := dk_27 (dk_at dksX4_bestTurn_0 6 rfl rfl)
theorem dX4_bestTurn_7 : decode cX4_bestTurn 7 = .ok (.invokevirtual 400, 3) := dk_182 1 144 (dk_at dksX4_bestTurn_0 7 rfl rfl)
theorem dX4_bestTurn_10 : decode cX4_bestTurn 10 = .ok (.ifCond .ne 9, 3) := dk_154 0 9 (dk_at dksX4_bestTurn_0 10 rfl rfl)
theorem dX4_bestTurn_13 : decode cX4_bestTurn 13 = .ok (.aload_n 0, 1) := dk_42 (dk_at dksX4_bestTurn_0 13 rfl rfl)
theorem dX4_bestTurn_14 : decode cX4_bestTurn 14 = .ok (.iconst 1, 1) := dk_4 (dk_at dksX4_bestTurn_0 14 rfl rfl)
theorem dX4_bestTurn_15 : decode cX4_bestTurn 15 = .ok (.invokevirtual 254, 3) := dk_182 0 254 (dk_at dksX4_bestTurn_0 15 rfl rfl)
theorem dX4_bestTurn_18 : decode cX4_bestTurn 18 = .ok (.ireturn, 1) := dk_172 (dk_at dksX4_bestTurn_0 18 rfl rfl)
theorem dX4_bestTurn_19 : decode cX4_bestTurn 19 = .ok (.aload_n 0, 1) := dk_42 (dk_at dksX4_bestTurn_0 19 rfl rfl)
theorem dX4_bestTurn_20 : decode cX4_bestTurn 20 = .ok (.aload_n 0, 1) := dk_42 (dk_at dksX4_bestTurn_0 20 rfl rfl)
theorem dX4_bestTurn_21 : decode cX4_bestTurn 21 = .ok (.getfield 48, 3) := dk_180 0 48 (dk_at dksX4_bestTurn_0 21 rfl rfl)
theorem dX4_bestTurn_24 : decode cX4_bestTurn 24 = .ok (.iload_n 1, 1) := dk_27 (dk_at dksX4_bestTurn_1 0 rfl rfl)
theorem dX4_bestTurn_25 : decode cX4_bestTurn 25 = .ok (.invokevirtual 418, 3) := dk_182 1 162 (dk_at dksX4_bestTurn_1 1 rfl rfl)
theorem dX4_bestTurn_28 : decode cX4_bestTurn 28 = .ok (.ifCond .eq 10, 3) := dk_153 0 10 (dk_at dksX4_bestTurn_1 4 rfl rfl)
theorem dX4_bestTurn_31 : decode cX4_bestTurn 31 = .ok (.aload_n 0, 1) := dk_42 (dk_at dksX4_bestTurn_1 7 rfl rfl)
theorem dX4_bestTurn_32 : decode cX4_bestTurn 32 = .ok (.getfield 340, 3) := dk_180 1 84 (dk_at dksX4_bestTurn_1 8 rfl rfl)
theorem dX4_bestTurn_35 : decode cX4_bestTurn 35 = .ok (.goto 8, 3) := dk_167 0 8 (dk_at dksX4_bestTurn_1 11 rfl rfl)
theorem dX4_bestTurn_38 : decode cX4_bestTurn 38 = .ok (.aload_n 0, 1) := dk_42 (dk_at dksX4_bestTurn_1 14 rfl rfl)
theorem dX4_bestTurn_39 : decode cX4_bestTurn 39 = .ok (.iconst 2, 1) := dk_5 (dk_at dksX4_bestTurn_1 15 rfl rfl)
theorem dX4_bestTurn_40 : decode cX4_bestTurn 40 = .ok (.invokevirtual 254, 3) := dk_182 0 254 (dk_at dksX4_bestTurn_1 16 rfl rfl)
theorem dX4_bestTurn_43 : decode cX4_bestTurn 43 = .ok (.ireturn, 1) := dk_172 (dk_at dksX4_bestTurn_1 19 rfl rfl)
abbrev cX4_bestTile : ByteArray := prog_45_method_108_code
def yX4_bestTile : MethodName := ⟨RX4, "bestTile", "()I"⟩
def dkwX4_bestTile_0 : List UInt8 := [42, 42, 182, 1, 165, 182, 1, 12, 172]
abbrev dktX4_bestTile_0 : List UInt8 := dkwX4_bestTile_0 ++ []
theorem dksX4_bestTile_0 : cX4_bestTile.data.toList.drop 0 = dktX4_bestTile_0 := by decide +kernel
theorem dX4_bestTile_0 : decode cX4_bestTile 0 = .ok (.aload_n 0, 1) := dk_42 (dk_at dksX4_bestTile_0 0 rfl rfl)
theorem dX4_bestTile_1 : decode cX4_bestTile 1 = .ok (.aload_n 0, 1) := dk_42 (dk_at dksX4_bestTile_0 1 rfl rfl)
theorem dX4_bestTile_2 : decode cX4_bestTile 2 = .ok (.invokevirtual 421, 3) := dk_182 1 165 (dk_at dksX4_bestTile_0 2 rfl rfl)
theorem dX4_bestTile_5 : decode cX4_bestTile 5 = .ok (.invokevirtual 268, 3) := dk_182 1 12 (dk_at dksX4_bestTile_0 5 rfl rfl)
theorem dX4_bestTile_8 : decode cX4_bestTile 8 = .ok (.ireturn, 1) := dk_172 (dk_at dksX4_bestTile_0 8 rfl rfl)
abbrev cX4_best : ByteArray := prog_45_method_107_code
def yX4_best : MethodName := ⟨RX4, "best", "()I"⟩
def dkwX4_best_2 : List UInt8 := [132, 3, 1, 167, 255, 212, 27, 172]
abbrev dktX4_best_2 : List UInt8 := dkwX4_best_2 ++ []
def dkwX4_best_1 : List UInt8 := [182, 1, 162, 153, 0, 21, 42, 180, 1, 75, 28, 163, 0, 6, 167, 0, 10, 42, 180, 1, 75, 61, 29, 60]
abbrev dktX4_best_1 : List UInt8 := dkwX4_best_1 ++ dktX4_best_2
def dkwX4_best_0 : List UInt8 := [2, 60, 2, 61, 3, 62, 29, 42, 180, 0, 35, 180, 0, 150, 162, 0, 39, 42, 42, 180, 0, 48, 29]
abbrev dktX4_best_0 : List UInt8 := dkwX4_best_0 ++ dktX4_best_1
theorem dksX4_best_0 : cX4_best.data.toList.drop 0 = dktX4_best_0 := by decide +kernel
theorem dksX4_best_1 : cX4_best.data.toList.drop 23 = dktX4_best_1 := dk_seg dksX4_best_0 23 rfl rfl
theorem dksX4_best_2 : cX4_best.data.toList.drop 47 = dktX4_best_2 := dk_seg dksX4_best_1 24 rfl rfl
theorem dX4_best_0 : decode cX4_best 0 = .ok (.iconst (-1), 1) := dk_2 (dk_at dksX4_best_0 0 rfl rfl)
theorem dX4_best_1 : decode cX4_best 1 = .ok (.istore_n 1, 1) := dk_60 (dk_at dksX4_best_0 1 rfl rfl)
theorem dX4_best_2 : decode cX4_best 2 = .ok (.iconst (-1), 1) := dk_2 (dk_at dksX4_best_0 2 rfl rfl)
theorem dX4_best_3 : decode cX4_best 3 = .ok (.istore_n 2, 1) := dk_61 (dk_at dksX4_best_0 3 rfl rfl)
theorem dX4_best_4 : decode cX4_best 4 = .ok (.iconst 0, 1) := dk_3 (dk_at dksX4_best_0 4 rfl rfl)
theorem dX4_best_5 : decode cX4_best 5 = .ok (.istore_n 3, 1) := dk_62 (dk_at dksX4_best_0 5 rfl rfl)
theorem dX4_best_6 : decode cX4_best 6 = .ok (.iload_n 3, 1) := dk_29 (dk_at dksX4_best_0 6 rfl rfl)
theorem dX4_best_7 : decode cX4_best 7 = .ok (.aload_n 0, 1) := dk_42 (dk_at dksX4_best_0 7 rfl rfl)
theorem dX4_best_8 : decode cX4_best 8 = .ok (.getfield 35, 3) := dk_180 0 35 (dk_at dksX4_best_0 8 rfl rfl)
theorem dX4_best_11 : decode cX4_best 11 = .ok (.getfield 150, 3) := dk_180 0 150 (dk_at dksX4_best_0 11 rfl rfl)
theorem dX4_best_14 : decode cX4_best 14 = .ok (.if_icmp .ge 39, 3) := dk_162 0 39 (dk_at dksX4_best_0 14 rfl rfl)
theorem dX4_best_17 : decode cX4_best 17 = .ok (.aload_n 0, 1) := dk_42 (dk_at dksX4_best_0 17 rfl rfl)
theorem dX4_best_18 : decode cX4_best 18 = .ok (.aload_n 0, 1) := dk_42 (dk_at dksX4_best_0 18 rfl rfl)
theorem dX4_best_19 : decode cX4_best 19 = .ok (.getfield 48, 3) := dk_180 0 48 (dk_at dksX4_best_0 19 rfl rfl)
theorem dX4_best_22 : decode cX4_best 22 = .ok (.iload_n 3, 1) := dk_29 (dk_at dksX4_best_0 22 rfl rfl)
theorem dX4_best_23 : decode cX4_best 23 = .ok (.invokevirtual 418, 3) := dk_182 1 162 (dk_at dksX4_best_1 0 rfl rfl)
theorem dX4_best_26 : decode cX4_best 26 = .ok (.ifCond .eq 21, 3) := dk_153 0 21 (dk_at dksX4_best_1 3 rfl rfl)
theorem dX4_best_29 : decode cX4_best 29 = .ok (.aload_n 0, 1) := dk_42 (dk_at dksX4_best_1 6 rfl rfl)
theorem dX4_best_30 : decode cX4_best 30 = .ok (.getfield 331, 3) := dk_180 1 75 (dk_at dksX4_best_1 7 rfl rfl)
theorem dX4_best_33 : decode cX4_best 33 = .ok (.iload_n 2, 1) := dk_28 (dk_at dksX4_best_1 10 rfl rfl)
theorem dX4_best_34 : decode cX4_best 34 = .ok (.if_icmp .gt 6, 3) := dk_163 0 6 (dk_at dksX4_best_1 11 rfl rfl)
theorem dX4_best_37 : decode cX4_best 37 = .ok (.goto 10, 3) := dk_167 0 10 (dk_at dksX4_best_1 14 rfl rfl)
theorem dX4_best_40 : decode cX4_best 40 = .ok (.aload_n 0, 1) := dk_42 (dk_at dksX4_best_1 17 rfl rfl)
theorem dX4_best_41 : decode cX4_best 41 = .ok (.getfield 331, 3) := dk_180 1 75 (dk_at dksX4_best_1 18 rfl rfl)
theorem dX4_best_44 : decode cX4_best 44 = .ok (.istore_n 2, 1) := dk_61 (dk_at dksX4_best_1 21 rfl rfl)
theorem dX4_best_45 : decode cX4_best 45 = .ok (.iload_n 3, 1) := dk_29 (dk_at dksX4_best_1 22 rfl rfl)
theorem dX4_best_46 : decode cX4_best 46 = .ok (.istore_n 1, 1) := dk_60 (dk_at dksX4_best_1 23 rfl rfl)
theorem dX4_best_47 : decode cX4_best 47 = .ok (.iinc 3 1, 3) := dk_132 3 1 (dk_at dksX4_best_2 0 rfl rfl)
theorem dX4_best_50 : decode cX4_best 50 = .ok (.goto (-44), 3) := dk_167 255 212 (dk_at dksX4_best_2 3 rfl rfl)
theorem dX4_best_53 : decode cX4_best 53 = .ok (.iload_n 1, 1) := dk_27 (dk_at dksX4_best_2 6 rfl rfl)
theorem dX4_best_54 : decode cX4_best 54 = .ok (.ireturn, 1) := dk_172 (dk_at dksX4_best_2 7 rfl rfl)
abbrev cX4_meanMatch : ByteArray := prog_45_method_109_code
def yX4_meanMatch : MethodName := ⟨RX4, "meanMatch", "()D"⟩
def dkwX4_meanMatch_1 : List UInt8 := [180, 0, 48, 182, 1, 65, 135, 42, 42, 180, 0, 48, 182, 1, 90, 135, 111, 175]
abbrev dktX4_meanMatch_1 : List UInt8 := dkwX4_meanMatch_1 ++ []
def dkwX4_meanMatch_0 : List UInt8 := [42, 3, 181, 0, 65, 42, 42, 180, 0, 48, 182, 1, 90, 154, 0, 7, 14, 167, 0, 22, 42, 42]
abbrev dktX4_meanMatch_0 : List UInt8 := dkwX4_meanMatch_0 ++ dktX4_meanMatch_1
theorem dksX4_meanMatch_0 : cX4_meanMatch.data.toList.drop 0 = dktX4_meanMatch_0 := by decide +kernel
theorem dksX4_meanMatch_1 : cX4_meanMatch.data.toList.drop 22 = dktX4_meanMatch_1 := dk_seg dksX4_meanMatch_0 22 rfl rfl
theorem dX4_meanMatch_0 : decode cX4_meanMatch 0 = .ok (.aload_n 0, 1) := dk_42 (dk_at dksX4_meanMatch_0 0 rfl rfl)
theorem dX4_meanMatch_1 : decode cX4_meanMatch 1 = .ok (.iconst 0, 1) := dk_3 (dk_at dksX4_meanMatch_0 1 rfl rfl)
theorem dX4_meanMatch_2 : decode cX4_meanMatch 2 = .ok (.putfield 65, 3) := dk_181 0 65 (dk_at dksX4_meanMatch_0 2 rfl rfl)
theorem dX4_meanMatch_5 : decode cX4_meanMatch 5 = .ok (.aload_n 0, 1) := dk_42 (dk_at dksX4_meanMatch_0 5 rfl rfl)
theorem dX4_meanMatch_6 : decode cX4_meanMatch 6 = .ok (.aload_n 0, 1) := dk_42 (dk_at dksX4_meanMatch_0 6 rfl rfl)
theorem dX4_meanMatch_7 : decode cX4_meanMatch 7 = .ok (.getfield 48, 3) := dk_180 0 48 (dk_at dksX4_meanMatch_0 7 rfl rfl)
theorem dX4_meanMatch_10 : decode cX4_meanMatch 10 = .ok (.invokevirtual 346, 3) := dk_182 1 90 (dk_at dksX4_meanMatch_0 10 rfl rfl)
theorem dX4_meanMatch_13 : decode cX4_meanMatch 13 = .ok (.ifCond .ne 7, 3) := dk_154 0 7 (dk_at dksX4_meanMatch_0 13 rfl rfl)
theorem dX4_meanMatch_16 : decode cX4_meanMatch 16 = .ok (.dconst 0, 1) := dk_14 (dk_at dksX4_meanMatch_0 16 rfl rfl)
theorem dX4_meanMatch_17 : decode cX4_meanMatch 17 = .ok (.goto 22, 3) := dk_167 0 22 (dk_at dksX4_meanMatch_0 17 rfl rfl)
theorem dX4_meanMatch_20 : decode cX4_meanMatch 20 = .ok (.aload_n 0, 1) := dk_42 (dk_at dksX4_meanMatch_0 20 rfl rfl)
theorem dX4_meanMatch_21 : decode cX4_meanMatch 21 = .ok (.aload_n 0, 1) := dk_42 (dk_at dksX4_meanMatch_0 21 rfl rfl)
theorem dX4_meanMatch_22 : decode cX4_meanMatch 22 = .ok (.getfield 48, 3) := dk_180 0 48 (dk_at dksX4_meanMatch_1 0 rfl rfl)
theorem dX4_meanMatch_25 : decode cX4_meanMatch 25 = .ok (.invokevirtual 321, 3) := dk_182 1 65 (dk_at dksX4_meanMatch_1 3 rfl rfl)
theorem dX4_meanMatch_28 : decode cX4_meanMatch 28 = .ok (.i2d, 1) := dk_135 (dk_at dksX4_meanMatch_1 6 rfl rfl)
theorem dX4_meanMatch_29 : decode cX4_meanMatch 29 = .ok (.aload_n 0, 1) := dk_42 (dk_at dksX4_meanMatch_1 7 rfl rfl)
theorem dX4_meanMatch_30 : decode cX4_meanMatch 30 = .ok (.aload_n 0, 1) := dk_42 (dk_at dksX4_meanMatch_1 8 rfl rfl)
theorem dX4_meanMatch_31 : decode cX4_meanMatch 31 = .ok (.getfield 48, 3) := dk_180 0 48 (dk_at dksX4_meanMatch_1 9 rfl rfl)
theorem dX4_meanMatch_34 : decode cX4_meanMatch 34 = .ok (.invokevirtual 346, 3) := dk_182 1 90 (dk_at dksX4_meanMatch_1 12 rfl rfl)
theorem dX4_meanMatch_37 : decode cX4_meanMatch 37 = .ok (.i2d, 1) := dk_135 (dk_at dksX4_meanMatch_1 15 rfl rfl)
theorem dX4_meanMatch_38 : decode cX4_meanMatch 38 = .ok (.ddiv, 1) := dk_111 (dk_at dksX4_meanMatch_1 16 rfl rfl)
theorem dX4_meanMatch_39 : decode cX4_meanMatch 39 = .ok (.dreturn, 1) := dk_175 (dk_at dksX4_meanMatch_1 17 rfl rfl)
abbrev cX4_digest : ByteArray := prog_45_method_110_code
def yX4_digest : MethodName := ⟨RX4, "digest", "()J"⟩
def dkwX4_digest_13 : List UInt8 := [4, 167, 0, 4, 3, 133, 97, 65, 132, 4, 1, 167, 255, 169, 42, 3, 181, 0, 65, 32, 173]
abbrev dktX4_digest_13 : List UInt8 := dkwX4_digest_13 ++ []
def dkwX4_digest_12 : List UInt8 := [42, 180, 0, 48, 21, 4, 182, 1, 96, 133, 97, 20, 1, 170, 105, 42, 21, 4, 182, 1, 153, 153, 0, 7]
abbrev dktX4_digest_12 : List UInt8 := dkwX4_digest_12 ++ dktX4_digest_13
def dkwX4_digest_11 : List UInt8 := [160, 0, 7, 2, 167, 0, 13, 42, 180, 0, 48, 180, 1, 27, 21, 4, 46, 133, 97, 20, 1, 170, 105, 42]
abbrev dktX4_digest_11 : List UInt8 := dkwX4_digest_11 ++ dktX4_digest_12
def dkwX4_digest_10 : List UInt8 := [180, 0, 150, 162, 0, 81, 32, 20, 1, 170, 105, 42, 180, 0, 48, 180, 1, 37, 21, 4, 46, 2]
abbrev dktX4_digest_10 : List UInt8 := dkwX4_digest_10 ++ dktX4_digest_11
def dkwX4_digest_9 : List UInt8 := [167, 0, 4, 3, 133, 97, 65, 132, 4, 1, 167, 255, 190, 3, 54, 4, 21, 4, 42, 180, 0, 35]
abbrev dktX4_digest_9 : List UInt8 := dkwX4_digest_9 ++ dktX4_digest_10
def dkwX4_digest_8 : List UInt8 := [182, 1, 141, 133, 97, 20, 1, 170, 105, 42, 42, 180, 0, 48, 21, 4, 182, 1, 58, 153, 0, 7, 4]
abbrev dktX4_digest_8 : List UInt8 := dkwX4_digest_8 ++ dktX4_digest_9
def dkwX4_digest_7 : List UInt8 := [20, 1, 170, 105, 42, 180, 0, 48, 180, 1, 24, 21, 4, 46, 133, 97, 20, 1, 170, 105, 42, 21, 4]
abbrev dktX4_digest_7 : List UInt8 := dkwX4_digest_7 ++ dktX4_digest_8
def dkwX4_digest_6 : List UInt8 := [21, 7, 133, 97, 65, 132, 6, 1, 167, 255, 229, 3, 54, 4, 21, 4, 42, 182, 1, 51, 162, 0, 63, 32]
abbrev dktX4_digest_6 : List UInt8 := dkwX4_digest_6 ++ dktX4_digest_7
def dkwX4_digest_5 : List UInt8 := [54, 5, 3, 54, 6, 21, 6, 21, 5, 162, 0, 26, 25, 4, 21, 6, 46, 54, 7, 32, 20, 1, 170, 105]
abbrev dktX4_digest_5 : List UInt8 := dkwX4_digest_5 ++ dktX4_digest_6
def dkwX4_digest_4 : List UInt8 := [182, 1, 129, 79, 89, 16, 9, 42, 182, 1, 165, 79, 76, 20, 1, 168, 65, 43, 58, 4, 25, 4, 190]
abbrev dktX4_digest_4 : List UInt8 := dkwX4_digest_4 ++ dktX4_digest_5
def dkwX4_digest_3 : List UInt8 := [180, 0, 48, 182, 1, 93, 79, 89, 16, 7, 42, 42, 180, 0, 48, 182, 1, 69, 79, 89, 16, 8, 42]
abbrev dktX4_digest_3 : List UInt8 := dkwX4_digest_3 ++ dktX4_digest_4
def dkwX4_digest_2 : List UInt8 := [180, 0, 48, 180, 1, 40, 79, 89, 8, 42, 42, 180, 0, 48, 182, 1, 90, 79, 89, 16, 6, 42, 42]
abbrev dktX4_digest_2 : List UInt8 := dkwX4_digest_2 ++ dktX4_digest_3
def dkwX4_digest_1 : List UInt8 := [89, 5, 42, 180, 0, 35, 180, 0, 150, 79, 89, 6, 42, 180, 0, 48, 180, 1, 87, 79, 89, 7, 42]
abbrev dktX4_digest_1 : List UInt8 := dkwX4_digest_1 ++ dktX4_digest_2
def dkwX4_digest_0 : List UInt8 := [16, 10, 188, 10, 89, 3, 42, 180, 0, 35, 180, 0, 245, 79, 89, 4, 42, 180, 0, 35, 180, 0, 248, 79]
abbrev dktX4_digest_0 : List UInt8 := dkwX4_digest_0 ++ dktX4_digest_1
theorem dksX4_digest_0 : cX4_digest.data.toList.drop 0 = dktX4_digest_0 := by decide +kernel
theorem dksX4_digest_1 : cX4_digest.data.toList.drop 24 = dktX4_digest_1 := dk_seg dksX4_digest_0 24 rfl rfl
theorem dksX4_digest_2 : cX4_digest.data.toList.drop 47 = dktX4_digest_2 := dk_seg dksX4_digest_1 23 rfl rfl
theorem dksX4_digest_3 : cX4_digest.data.toList.drop 70 = dktX4_digest_3 := dk_seg dksX4_digest_2 23 rfl rfl
theorem dksX4_digest_4 : cX4_digest.data.toList.drop 93 = dktX4_digest_4 := dk_seg dksX4_digest_3 23 rfl rfl
theorem dksX4_digest_5 : cX4_digest.data.toList.drop 116 = dktX4_digest_5 := dk_seg dksX4_digest_4 23 rfl rfl
theorem dksX4_digest_6 : cX4_digest.data.toList.drop 140 = dktX4_digest_6 := dk_seg dksX4_digest_5 24 rfl rfl
theorem dksX4_digest_7 : cX4_digest.data.toList.drop 164 = dktX4_digest_7 := dk_seg dksX4_digest_6 24 rfl rfl
theorem dksX4_digest_8 : cX4_digest.data.toList.drop 187 = dktX4_digest_8 := dk_seg dksX4_digest_7 23 rfl rfl
theorem dksX4_digest_9 : cX4_digest.data.toList.drop 210 = dktX4_digest_9 := dk_seg dksX4_digest_8 23 rfl rfl
theorem dksX4_digest_10 : cX4_digest.data.toList.drop 232 = dktX4_digest_10 := dk_seg dksX4_digest_9 22 rfl rfl
theorem dksX4_digest_11 : cX4_digest.data.toList.drop 254 = dktX4_digest_11 := dk_seg dksX4_digest_10 22 rfl rfl
theorem dksX4_digest_12 : cX4_digest.data.toList.drop 278 = dktX4_digest_12 := dk_seg dksX4_digest_11 24 rfl rfl
theorem dksX4_digest_13 : cX4_digest.data.toList.drop 302 = dktX4_digest_13 := dk_seg dksX4_digest_12 24 rfl rfl
theorem dX4_digest_0 : decode cX4_digest 0 = .ok (.bipush 10, 2) := dk_16 10 (dk_at dksX4_digest_0 0 rfl rfl)
theorem dX4_digest_2 : decode cX4_digest 2 = .ok (.newarray .int, 2) := dk_188_10 (dk_at dksX4_digest_0 2 rfl rfl)
theorem dX4_digest_4 : decode cX4_digest 4 = .ok (.dup, 1) := dk_89 (dk_at dksX4_digest_0 4 rfl rfl)
theorem dX4_digest_5 : decode cX4_digest 5 = .ok (.iconst 0, 1) := dk_3 (dk_at dksX4_digest_0 5 rfl rfl)
theorem dX4_digest_6 : decode cX4_digest 6 = .ok (.aload_n 0, 1) := dk_42 (dk_at dksX4_digest_0 6 rfl rfl)
theorem dX4_digest_7 : decode cX4_digest 7 = .ok (.getfield 35, 3) := dk_180 0 35 (dk_at dksX4_digest_0 7 rfl rfl)
theorem dX4_digest_10 : decode cX4_digest 10 = .ok (.getfield 245, 3) := dk_180 0 245 (dk_at dksX4_digest_0 10 rfl rfl)
theorem dX4_digest_13 : decode cX4_digest 13 = .ok (.iastore, 1) := dk_79 (dk_at dksX4_digest_0 13 rfl rfl)
theorem dX4_digest_14 : decode cX4_digest 14 = .ok (.dup, 1) := dk_89 (dk_at dksX4_digest_0 14 rfl rfl)
theorem dX4_digest_15 : decode cX4_digest 15 = .ok (.iconst 1, 1) := dk_4 (dk_at dksX4_digest_0 15 rfl rfl)
theorem dX4_digest_16 : decode cX4_digest 16 = .ok (.aload_n 0, 1) := dk_42 (dk_at dksX4_digest_0 16 rfl rfl)
theorem dX4_digest_17 : decode cX4_digest 17 = .ok (.getfield 35, 3) := dk_180 0 35 (dk_at dksX4_digest_0 17 rfl rfl)
theorem dX4_digest_20 : decode cX4_digest 20 = .ok (.getfield 248, 3) := dk_180 0 248 (dk_at dksX4_digest_0 20 rfl rfl)
theorem dX4_digest_23 : decode cX4_digest 23 = .ok (.iastore, 1) := dk_79 (dk_at dksX4_digest_0 23 rfl rfl)
theorem dX4_digest_24 : decode cX4_digest 24 = .ok (.dup, 1) := dk_89 (dk_at dksX4_digest_1 0 rfl rfl)
theorem dX4_digest_25 : decode cX4_digest 25 = .ok (.iconst 2, 1) := dk_5 (dk_at dksX4_digest_1 1 rfl rfl)
theorem dX4_digest_26 : decode cX4_digest 26 = .ok (.aload_n 0, 1) := dk_42 (dk_at dksX4_digest_1 2 rfl rfl)
theorem dX4_digest_27 : decode cX4_digest 27 = .ok (.getfield 35, 3) := dk_180 0 35 (dk_at dksX4_digest_1 3 rfl rfl)
theorem dX4_digest_30 : decode cX4_digest 30 = .ok (.getfield 150, 3) := dk_180 0 150 (dk_at dksX4_digest_1 6 rfl rfl)
theorem dX4_digest_33 : decode cX4_digest 33 = .ok (.iastore, 1) := dk_79 (dk_at dksX4_digest_1 9 rfl rfl)
theorem dX4_digest_34 : decode cX4_digest 34 = .ok (.dup, 1) := dk_89 (dk_at dksX4_digest_1 10 rfl rfl)
theorem dX4_digest_35 : decode cX4_digest 35 = .ok (.iconst 3, 1) := dk_6 (dk_at dksX4_digest_1 11 rfl rfl)
theorem dX4_digest_36 : decode cX4_digest 36 = .ok (.aload_n 0, 1) := dk_42 (dk_at dksX4_digest_1 12 rfl rfl)
theorem dX4_digest_37 : decode cX4_digest 37 = .ok (.getfield 48, 3) := dk_180 0 48 (dk_at dksX4_digest_1 13 rfl rfl)
theorem dX4_digest_40 : decode cX4_digest 40 = .ok (.getfield 343, 3) := dk_180 1 87 (dk_at dksX4_digest_1 16 rfl rfl)
theorem dX4_digest_43 : decode cX4_digest 43 = .ok (.iastore, 1) := dk_79 (dk_at dksX4_digest_1 19 rfl rfl)
theorem dX4_digest_44 : decode cX4_digest 44 = .ok (.dup, 1) := dk_89 (dk_at dksX4_digest_1 20 rfl rfl)
theorem dX4_digest_45 : decode cX4_digest 45 = .ok (.iconst 4, 1) := dk_7 (dk_at dksX4_digest_1 21 rfl rfl)
theorem dX4_digest_46 : decode cX4_digest 46 = .ok (.aload_n 0, 1) := dk_42 (dk_at dksX4_digest_1 22 rfl rfl)
theorem dX4_digest_47 : decode cX4_digest 47 = .ok (.getfield 48, 3) := dk_180 0 48 (dk_at dksX4_digest_2 0 rfl rfl)
theorem dX4_digest_50 : decode cX4_digest 50 = .ok (.getfield 296, 3) := dk_180 1 40 (dk_at dksX4_digest_2 3 rfl rfl)
theorem dX4_digest_53 : decode cX4_digest 53 = .ok (.iastore, 1) := dk_79 (dk_at dksX4_digest_2 6 rfl rfl)
theorem dX4_digest_54 : decode cX4_digest 54 = .ok (.dup, 1) := dk_89 (dk_at dksX4_digest_2 7 rfl rfl)
theorem dX4_digest_55 : decode cX4_digest 55 = .ok (.iconst 5, 1) := dk_8 (dk_at dksX4_digest_2 8 rfl rfl)
theorem dX4_digest_56 : decode cX4_digest 56 = .ok (.aload_n 0, 1) := dk_42 (dk_at dksX4_digest_2 9 rfl rfl)
theorem dX4_digest_57 : decode cX4_digest 57 = .ok (.aload_n 0, 1) := dk_42 (dk_at dksX4_digest_2 10 rfl rfl)
theorem dX4_digest_58 : decode cX4_digest 58 = .ok (.getfield 48, 3) := dk_180 0 48 (dk_at dksX4_digest_2 11 rfl rfl)
theorem dX4_digest_61 : decode cX4_digest 61 = .ok (.invokevirtual 346, 3) := dk_182 1 90 (dk_at dksX4_digest_2 14 rfl rfl)
theorem dX4_digest_64 : decode cX4_digest 64 = .ok (.iastore, 1) := dk_79 (dk_at dksX4_digest_2 17 rfl rfl)
theorem dX4_digest_65 : decode cX4_digest 65 = .ok (.dup, 1) := dk_89 (dk_at dksX4_digest_2 18 rfl rfl)
theorem dX4_digest_66 : decode cX4_digest 66 = .ok (.bipush 6, 2) := dk_16 6 (dk_at dksX4_digest_2 19 rfl rfl)
theorem dX4_digest_68 : decode cX4_digest 68 = .ok (.aload_n 0, 1) := dk_42 (dk_at dksX4_digest_2 21 rfl rfl)
theorem dX4_digest_69 : decode cX4_digest 69 = .ok (.aload_n 0, 1) := dk_42 (dk_at dksX4_digest_2 22 rfl rfl)
theorem dX4_digest_70 : decode cX4_digest 70 = .ok (.getfield 48, 3) := dk_180 0 48 (dk_at dksX4_digest_3 0 rfl rfl)
theorem dX4_digest_73 : decode cX4_digest 73 = .ok (.invokevirtual 349, 3) := dk_182 1 93 (dk_at dksX4_digest_3 3 rfl rfl)
theorem dX4_digest_76 : decode cX4_digest 76 = .ok (.iastore, 1) := dk_79 (dk_at dksX4_digest_3 6 rfl rfl)
theorem dX4_digest_77 : decode cX4_digest 77 = .ok (.dup, 1) := dk_89 (dk_at dksX4_digest_3 7 rfl rfl)
theorem dX4_digest_78 : decode cX4_digest 78 = .ok (.bipush 7, 2) := dk_16 7 (dk_at dksX4_digest_3 8 rfl rfl)
theorem dX4_digest_80 : decode cX4_digest 80 = .ok (.aload_n 0, 1) := dk_42 (dk_at dksX4_digest_3 10 rfl rfl)
theorem dX4_digest_81 : decode cX4_digest 81 = .ok (.aload_n 0, 1) := dk_42 (dk_at dksX4_digest_3 11 rfl rfl)
theorem dX4_digest_82 : decode cX4_digest 82 = .ok (.getfield 48, 3) := dk_180 0 48 (dk_at dksX4_digest_3 12 rfl rfl)
theorem dX4_digest_85 : decode cX4_digest 85 = .ok (.invokevirtual 325, 3) := dk_182 1 69 (dk_at dksX4_digest_3 15 rfl rfl)
theorem dX4_digest_88 : decode cX4_digest 88 = .ok (.iastore, 1) := dk_79 (dk_at dksX4_digest_3 18 rfl rfl)
theorem dX4_digest_89 : decode cX4_digest 89 = .ok (.dup, 1) := dk_89 (dk_at dksX4_digest_3 19 rfl rfl)
theorem dX4_digest_90 : decode cX4_digest 90 = .ok (.bipush 8, 2) := dk_16 8 (dk_at dksX4_digest_3 20 rfl rfl)
theorem dX4_digest_92 : decode cX4_digest 92 = .ok (.aload_n 0, 1) := dk_42 (dk_at dksX4_digest_3 22 rfl rfl)
theorem dX4_digest_93 : decode cX4_digest 93 = .ok (.invokevirtual 385, 3) := dk_182 1 129 (dk_at dksX4_digest_4 0 rfl rfl)
theorem dX4_digest_96 : decode cX4_digest 96 = .ok (.iastore, 1) := dk_79 (dk_at dksX4_digest_4 3 rfl rfl)
theorem dX4_digest_97 : decode cX4_digest 97 = .ok (.dup, 1) := dk_89 (dk_at dksX4_digest_4 4 rfl rfl)
theorem dX4_digest_98 : decode cX4_digest 98 = .ok (.bipush 9, 2) := dk_16 9 (dk_at dksX4_digest_4 5 rfl rfl)
theorem dX4_digest_100 : decode cX4_digest 100 = .ok (.aload_n 0, 1) := dk_42 (dk_at dksX4_digest_4 7 rfl rfl)
theorem dX4_digest_101 : decode cX4_digest 101 = .ok (.invokevirtual 421, 3) := dk_182 1 165 (dk_at dksX4_digest_4 8 rfl rfl)
theorem dX4_digest_104 : decode cX4_digest 104 = .ok (.iastore, 1) := dk_79 (dk_at dksX4_digest_4 11 rfl rfl)
theorem dX4_digest_105 : decode cX4_digest 105 = .ok (.astore_n 1, 1) := dk_76 (dk_at dksX4_digest_4 12 rfl rfl)
theorem dX4_digest_106 : decode cX4_digest 106 = .ok (.ldc2_w 424, 3) := dk_20 1 168 (dk_at dksX4_digest_4 13 rfl rfl)
theorem dX4_digest_109 : decode cX4_digest 109 = .ok (.lstore_n 2, 1) := dk_65 (dk_at dksX4_digest_4 16 rfl rfl)
theorem dX4_digest_110 : decode cX4_digest 110 = .ok (.aload_n 1, 1) := dk_43 (dk_at dksX4_digest_4 17 rfl rfl)
theorem dX4_digest_111 : decode cX4_digest 111 = .ok (.astore 4, 2) := dk_58 4 (dk_at dksX4_digest_4 18 rfl rfl)
theorem dX4_digest_113 : decode cX4_digest 113 = .ok (.aload 4, 2) := dk_25 4 (dk_at dksX4_digest_4 20 rfl rfl)
theorem dX4_digest_115 : decode cX4_digest 115 = .ok (.arraylength, 1) := dk_190 (dk_at dksX4_digest_4 22 rfl rfl)
theorem dX4_digest_116 : decode cX4_digest 116 = .ok (.istore 5, 2) := dk_54 5 (dk_at dksX4_digest_5 0 rfl rfl)
theorem dX4_digest_118 : decode cX4_digest 118 = .ok (.iconst 0, 1) := dk_3 (dk_at dksX4_digest_5 2 rfl rfl)
theorem dX4_digest_119 : decode cX4_digest 119 = .ok (.istore 6, 2) := dk_54 6 (dk_at dksX4_digest_5 3 rfl rfl)
theorem dX4_digest_121 : decode cX4_digest 121 = .ok (.iload 6, 2) := dk_21 6 (dk_at dksX4_digest_5 5 rfl rfl)
theorem dX4_digest_123 : decode cX4_digest 123 = .ok (.iload 5, 2) := dk_21 5 (dk_at dksX4_digest_5 7 rfl rfl)
theorem dX4_digest_125 : decode cX4_digest 125 = .ok (.if_icmp .ge 26, 3) := dk_162 0 26 (dk_at dksX4_digest_5 9 rfl rfl)
theorem dX4_digest_128 : decode cX4_digest 128 = .ok (.aload 4, 2) := dk_25 4 (dk_at dksX4_digest_5 12 rfl rfl)
theorem dX4_digest_130 : decode cX4_digest 130 = .ok (.iload 6, 2) := dk_21 6 (dk_at dksX4_digest_5 14 rfl rfl)
theorem dX4_digest_132 : decode cX4_digest 132 = .ok (.iaload, 1) := dk_46 (dk_at dksX4_digest_5 16 rfl rfl)
theorem dX4_digest_133 : decode cX4_digest 133 = .ok (.istore 7, 2) := dk_54 7 (dk_at dksX4_digest_5 17 rfl rfl)
theorem dX4_digest_135 : decode cX4_digest 135 = .ok (.lload_n 2, 1) := dk_32 (dk_at dksX4_digest_5 19 rfl rfl)
theorem dX4_digest_136 : decode cX4_digest 136 = .ok (.ldc2_w 426, 3) := dk_20 1 170 (dk_at dksX4_digest_5 20 rfl rfl)
theorem dX4_digest_139 : decode cX4_digest 139 = .ok (.lmul, 1) := dk_105 (dk_at dksX4_digest_5 23 rfl rfl)
theorem dX4_digest_140 : decode cX4_digest 140 = .ok (.iload 7, 2) := dk_21 7 (dk_at dksX4_digest_6 0 rfl rfl)
theorem dX4_digest_142 : decode cX4_digest 142 = .ok (.i2l, 1) := dk_133 (dk_at dksX4_digest_6 2 rfl rfl)
theorem dX4_digest_143 : decode cX4_digest 143 = .ok (.ladd, 1) := dk_97 (dk_at dksX4_digest_6 3 rfl rfl)
theorem dX4_digest_144 : decode cX4_digest 144 = .ok (.lstore_n 2, 1) := dk_65 (dk_at dksX4_digest_6 4 rfl rfl)
theorem dX4_digest_145 : decode cX4_digest 145 = .ok (.iinc 6 1, 3) := dk_132 6 1 (dk_at dksX4_digest_6 5 rfl rfl)
theorem dX4_digest_148 : decode cX4_digest 148 = .ok (.goto (-27), 3) := dk_167 255 229 (dk_at dksX4_digest_6 8 rfl rfl)
theorem dX4_digest_151 : decode cX4_digest 151 = .ok (.iconst 0, 1) := dk_3 (dk_at dksX4_digest_6 11 rfl rfl)
theorem dX4_digest_152 : decode cX4_digest 152 = .ok (.istore 4, 2) := dk_54 4 (dk_at dksX4_digest_6 12 rfl rfl)
theorem dX4_digest_154 : decode cX4_digest 154 = .ok (.iload 4, 2) := dk_21 4 (dk_at dksX4_digest_6 14 rfl rfl)
theorem dX4_digest_156 : decode cX4_digest 156 = .ok (.aload_n 0, 1) := dk_42 (dk_at dksX4_digest_6 16 rfl rfl)
theorem dX4_digest_157 : decode cX4_digest 157 = .ok (.invokevirtual 307, 3) := dk_182 1 51 (dk_at dksX4_digest_6 17 rfl rfl)
theorem dX4_digest_160 : decode cX4_digest 160 = .ok (.if_icmp .ge 63, 3) := dk_162 0 63 (dk_at dksX4_digest_6 20 rfl rfl)
theorem dX4_digest_163 : decode cX4_digest 163 = .ok (.lload_n 2, 1) := dk_32 (dk_at dksX4_digest_6 23 rfl rfl)
theorem dX4_digest_164 : decode cX4_digest 164 = .ok (.ldc2_w 426, 3) := dk_20 1 170 (dk_at dksX4_digest_7 0 rfl rfl)
theorem dX4_digest_167 : decode cX4_digest 167 = .ok (.lmul, 1) := dk_105 (dk_at dksX4_digest_7 3 rfl rfl)
theorem dX4_digest_168 : decode cX4_digest 168 = .ok (.aload_n 0, 1) := dk_42 (dk_at dksX4_digest_7 4 rfl rfl)
theorem dX4_digest_169 : decode cX4_digest 169 = .ok (.getfield 48, 3) := dk_180 0 48 (dk_at dksX4_digest_7 5 rfl rfl)
theorem dX4_digest_172 : decode cX4_digest 172 = .ok (.getfield 280, 3) := dk_180 1 24 (dk_at dksX4_digest_7 8 rfl rfl)
theorem dX4_digest_175 : decode cX4_digest 175 = .ok (.iload 4, 2) := dk_21 4 (dk_at dksX4_digest_7 11 rfl rfl)
theorem dX4_digest_177 : decode cX4_digest 177 = .ok (.iaload, 1) := dk_46 (dk_at dksX4_digest_7 13 rfl rfl)
theorem dX4_digest_178 : decode cX4_digest 178 = .ok (.i2l, 1) := dk_133 (dk_at dksX4_digest_7 14 rfl rfl)
theorem dX4_digest_179 : decode cX4_digest 179 = .ok (.ladd, 1) := dk_97 (dk_at dksX4_digest_7 15 rfl rfl)
theorem dX4_digest_180 : decode cX4_digest 180 = .ok (.ldc2_w 426, 3) := dk_20 1 170 (dk_at dksX4_digest_7 16 rfl rfl)
theorem dX4_digest_183 : decode cX4_digest 183 = .ok (.lmul, 1) := dk_105 (dk_at dksX4_digest_7 19 rfl rfl)
theorem dX4_digest_184 : decode cX4_digest 184 = .ok (.aload_n 0, 1) := dk_42 (dk_at dksX4_digest_7 20 rfl rfl)
theorem dX4_digest_185 : decode cX4_digest 185 = .ok (.iload 4, 2) := dk_21 4 (dk_at dksX4_digest_7 21 rfl rfl)
theorem dX4_digest_187 : decode cX4_digest 187 = .ok (.invokevirtual 397, 3) := dk_182 1 141 (dk_at dksX4_digest_8 0 rfl rfl)
theorem dX4_digest_190 : decode cX4_digest 190 = .ok (.i2l, 1) := dk_133 (dk_at dksX4_digest_8 3 rfl rfl)
theorem dX4_digest_191 : decode cX4_digest 191 = .ok (.ladd, 1) := dk_97 (dk_at dksX4_digest_8 4 rfl rfl)
theorem dX4_digest_192 : decode cX4_digest 192 = .ok (.ldc2_w 426, 3) := dk_20 1 170 (dk_at dksX4_digest_8 5 rfl rfl)
theorem dX4_digest_195 : decode cX4_digest 195 = .ok (.lmul, 1) := dk_105 (dk_at dksX4_digest_8 8 rfl rfl)
theorem dX4_digest_196 : decode cX4_digest 196 = .ok (.aload_n 0, 1) := dk_42 (dk_at dksX4_digest_8 9 rfl rfl)
theorem dX4_digest_197 : decode cX4_digest 197 = .ok (.aload_n 0, 1) := dk_42 (dk_at dksX4_digest_8 10 rfl rfl)
theorem dX4_digest_198 : decode cX4_digest 198 = .ok (.getfield 48, 3) := dk_180 0 48 (dk_at dksX4_digest_8 11 rfl rfl)
theorem dX4_digest_201 : decode cX4_digest 201 = .ok (.iload 4, 2) := dk_21 4 (dk_at dksX4_digest_8 14 rfl rfl)
theorem dX4_digest_203 : decode cX4_digest 203 = .ok (.invokevirtual 314, 3) := dk_182 1 58 (dk_at dksX4_digest_8 16 rfl rfl)
theorem dX4_digest_206 : decode cX4_digest 206 = .ok (.ifCond .eq 7, 3) := dk_153 0 7 (dk_at dksX4_digest_8 19 rfl rfl)
theorem dX4_digest_209 : decode cX4_digest 209 = .ok (.iconst 1, 1) := dk_4 (dk_at dksX4_digest_8 22 rfl rfl)
theorem dX4_digest_210 : decode cX4_digest 210 = .ok (.goto 4, 3) := dk_167 0 4 (dk_at dksX4_digest_9 0 rfl rfl)
theorem dX4_digest_213 : decode cX4_digest 213 = .ok (.iconst 0, 1) := dk_3 (dk_at dksX4_digest_9 3 rfl rfl)
theorem dX4_digest_214 : decode cX4_digest 214 = .ok (.i2l, 1) := dk_133 (dk_at dksX4_digest_9 4 rfl rfl)
theorem dX4_digest_215 : decode cX4_digest 215 = .ok (.ladd, 1) := dk_97 (dk_at dksX4_digest_9 5 rfl rfl)
theorem dX4_digest_216 : decode cX4_digest 216 = .ok (.lstore_n 2, 1) := dk_65 (dk_at dksX4_digest_9 6 rfl rfl)
theorem dX4_digest_217 : decode cX4_digest 217 = .ok (.iinc 4 1, 3) := dk_132 4 1 (dk_at dksX4_digest_9 7 rfl rfl)
theorem dX4_digest_220 : decode cX4_digest 220 = .ok (.goto (-66), 3) := dk_167 255 190 (dk_at dksX4_digest_9 10 rfl rfl)
theorem dX4_digest_223 : decode cX4_digest 223 = .ok (.iconst 0, 1) := dk_3 (dk_at dksX4_digest_9 13 rfl rfl)
theorem dX4_digest_224 : decode cX4_digest 224 = .ok (.istore 4, 2) := dk_54 4 (dk_at dksX4_digest_9 14 rfl rfl)
theorem dX4_digest_226 : decode cX4_digest 226 = .ok (.iload 4, 2) := dk_21 4 (dk_at dksX4_digest_9 16 rfl rfl)
theorem dX4_digest_228 : decode cX4_digest 228 = .ok (.aload_n 0, 1) := dk_42 (dk_at dksX4_digest_9 18 rfl rfl)
theorem dX4_digest_229 : decode cX4_digest 229 = .ok (.getfield 35, 3) := dk_180 0 35 (dk_at dksX4_digest_9 19 rfl rfl)
theorem dX4_digest_232 : decode cX4_digest 232 = .ok (.getfield 150, 3) := dk_180 0 150 (dk_at dksX4_digest_10 0 rfl rfl)
theorem dX4_digest_235 : decode cX4_digest 235 = .ok (.if_icmp .ge 81, 3) := dk_162 0 81 (dk_at dksX4_digest_10 3 rfl rfl)
theorem dX4_digest_238 : decode cX4_digest 238 = .ok (.lload_n 2, 1) := dk_32 (dk_at dksX4_digest_10 6 rfl rfl)
theorem dX4_digest_239 : decode cX4_digest 239 = .ok (.ldc2_w 426, 3) := dk_20 1 170 (dk_at dksX4_digest_10 7 rfl rfl)
theorem dX4_digest_242 : decode cX4_digest 242 = .ok (.lmul, 1) := dk_105 (dk_at dksX4_digest_10 10 rfl rfl)
theorem dX4_digest_243 : decode cX4_digest 243 = .ok (.aload_n 0, 1) := dk_42 (dk_at dksX4_digest_10 11 rfl rfl)
theorem dX4_digest_244 : decode cX4_digest 244 = .ok (.getfield 48, 3) := dk_180 0 48 (dk_at dksX4_digest_10 12 rfl rfl)
theorem dX4_digest_247 : decode cX4_digest 247 = .ok (.getfield 293, 3) := dk_180 1 37 (dk_at dksX4_digest_10 15 rfl rfl)
theorem dX4_digest_250 : decode cX4_digest 250 = .ok (.iload 4, 2) := dk_21 4 (dk_at dksX4_digest_10 18 rfl rfl)
theorem dX4_digest_252 : decode cX4_digest 252 = .ok (.iaload, 1) := dk_46 (dk_at dksX4_digest_10 20 rfl rfl)
theorem dX4_digest_253 : decode cX4_digest 253 = .ok (.iconst (-1), 1) := dk_2 (dk_at dksX4_digest_10 21 rfl rfl)
theorem dX4_digest_254 : decode cX4_digest 254 = .ok (.if_icmp .ne 7, 3) := dk_160 0 7 (dk_at dksX4_digest_11 0 rfl rfl)
theorem dX4_digest_257 : decode cX4_digest 257 = .ok (.iconst (-1), 1) := dk_2 (dk_at dksX4_digest_11 3 rfl rfl)
theorem dX4_digest_258 : decode cX4_digest 258 = .ok (.goto 13, 3) := dk_167 0 13 (dk_at dksX4_digest_11 4 rfl rfl)
theorem dX4_digest_261 : decode cX4_digest 261 = .ok (.aload_n 0, 1) := dk_42 (dk_at dksX4_digest_11 7 rfl rfl)
theorem dX4_digest_262 : decode cX4_digest 262 = .ok (.getfield 48, 3) := dk_180 0 48 (dk_at dksX4_digest_11 8 rfl rfl)
theorem dX4_digest_265 : decode cX4_digest 265 = .ok (.getfield 283, 3) := dk_180 1 27 (dk_at dksX4_digest_11 11 rfl rfl)
theorem dX4_digest_268 : decode cX4_digest 268 = .ok (.iload 4, 2) := dk_21 4 (dk_at dksX4_digest_11 14 rfl rfl)
theorem dX4_digest_270 : decode cX4_digest 270 = .ok (.iaload, 1) := dk_46 (dk_at dksX4_digest_11 16 rfl rfl)
theorem dX4_digest_271 : decode cX4_digest 271 = .ok (.i2l, 1) := dk_133 (dk_at dksX4_digest_11 17 rfl rfl)
theorem dX4_digest_272 : decode cX4_digest 272 = .ok (.ladd, 1) := dk_97 (dk_at dksX4_digest_11 18 rfl rfl)
theorem dX4_digest_273 : decode cX4_digest 273 = .ok (.ldc2_w 426, 3) := dk_20 1 170 (dk_at dksX4_digest_11 19 rfl rfl)
theorem dX4_digest_276 : decode cX4_digest 276 = .ok (.lmul, 1) := dk_105 (dk_at dksX4_digest_11 22 rfl rfl)
theorem dX4_digest_277 : decode cX4_digest 277 = .ok (.aload_n 0, 1) := dk_42 (dk_at dksX4_digest_11 23 rfl rfl)
theorem dX4_digest_278 : decode cX4_digest 278 = .ok (.aload_n 0, 1) := dk_42 (dk_at dksX4_digest_12 0 rfl rfl)
theorem dX4_digest_279 : decode cX4_digest 279 = .ok (.getfield 48, 3) := dk_180 0 48 (dk_at dksX4_digest_12 1 rfl rfl)
theorem dX4_digest_282 : decode cX4_digest 282 = .ok (.iload 4, 2) := dk_21 4 (dk_at dksX4_digest_12 4 rfl rfl)
theorem dX4_digest_284 : decode cX4_digest 284 = .ok (.invokevirtual 352, 3) := dk_182 1 96 (dk_at dksX4_digest_12 6 rfl rfl)
theorem dX4_digest_287 : decode cX4_digest 287 = .ok (.i2l, 1) := dk_133 (dk_at dksX4_digest_12 9 rfl rfl)
theorem dX4_digest_288 : decode cX4_digest 288 = .ok (.ladd, 1) := dk_97 (dk_at dksX4_digest_12 10 rfl rfl)
theorem dX4_digest_289 : decode cX4_digest 289 = .ok (.ldc2_w 426, 3) := dk_20 1 170 (dk_at dksX4_digest_12 11 rfl rfl)
theorem dX4_digest_292 : decode cX4_digest 292 = .ok (.lmul, 1) := dk_105 (dk_at dksX4_digest_12 14 rfl rfl)
theorem dX4_digest_293 : decode cX4_digest 293 = .ok (.aload_n 0, 1) := dk_42 (dk_at dksX4_digest_12 15 rfl rfl)
theorem dX4_digest_294 : decode cX4_digest 294 = .ok (.iload 4, 2) := dk_21 4 (dk_at dksX4_digest_12 16 rfl rfl)
theorem dX4_digest_296 : decode cX4_digest 296 = .ok (.invokevirtual 409, 3) := dk_182 1 153 (dk_at dksX4_digest_12 18 rfl rfl)
theorem dX4_digest_299 : decode cX4_digest 299 = .ok (.ifCond .eq 7, 3) := dk_153 0 7 (dk_at dksX4_digest_12 21 rfl rfl)
theorem dX4_digest_302 : decode cX4_digest 302 = .ok (.iconst 1, 1) := dk_4 (dk_at dksX4_digest_13 0 rfl rfl)
theorem dX4_digest_303 : decode cX4_digest 303 = .ok (.goto 4, 3) := dk_167 0 4 (dk_at dksX4_digest_13 1 rfl rfl)
theorem dX4_digest_306 : decode cX4_digest 306 = .ok (.iconst 0, 1) := dk_3 (dk_at dksX4_digest_13 4 rfl rfl)
theorem dX4_digest_307 : decode cX4_digest 307 = .ok (.i2l, 1) := dk_133 (dk_at dksX4_digest_13 5 rfl rfl)
theorem dX4_digest_308 : decode cX4_digest 308 = .ok (.ladd, 1) := dk_97 (dk_at dksX4_digest_13 6 rfl rfl)
theorem dX4_digest_309 : decode cX4_digest 309 = .ok (.lstore_n 2, 1) := dk_65 (dk_at dksX4_digest_13 7 rfl rfl)
theorem dX4_digest_310 : decode cX4_digest 310 = .ok (.iinc 4 1, 3) := dk_132 4 1 (dk_at dksX4_digest_13 8 rfl rfl)
theorem dX4_digest_313 : decode cX4_digest 313 = .ok (.goto (-87), 3) := dk_167 255 169 (dk_at dksX4_digest_13 11 rfl rfl)
theorem dX4_digest_316 : decode cX4_digest 316 = .ok (.aload_n 0, 1) := dk_42 (dk_at dksX4_digest_13 14 rfl rfl)
theorem dX4_digest_317 : decode cX4_digest 317 = .ok (.iconst 0, 1) := dk_3 (dk_at dksX4_digest_13 15 rfl rfl)
theorem dX4_digest_318 : decode cX4_digest 318 = .ok (.putfield 65, 3) := dk_181 0 65 (dk_at dksX4_digest_13 16 rfl rfl)
theorem dX4_digest_321 : decode cX4_digest 321 = .ok (.lload_n 2, 1) := dk_32 (dk_at dksX4_digest_13 19 rfl rfl)
theorem dX4_digest_322 : decode cX4_digest 322 = .ok (.lreturn, 1) := dk_173 (dk_at dksX4_digest_13 20 rfl rfl)
theorem q106 : (Jvm.Cond.initialized "RingDominoModel") ∈ lw_all := lw_g (lw_at lw_m1 7 rfl) rfl
theorem q823 : (Jvm.Cond.selects "RingDominoModel" ({ cls := "java/lang/Object", name := "getClass", desc := "()Ljava/lang/Class;" } : Jvm.MethodName) ({ cls := "java/lang/Object", name := "getClass", desc := "()Ljava/lang/Class;" } : Jvm.MethodName)) ∈ lw_all := lw_g (lw_at lw_m4 4 rfl) rfl
theorem q1086 : (Jvm.Cond.selects "RingDominoModel" ({ cls := "java/lang/Object", name := "hashCode", desc := "()I" } : Jvm.MethodName) ({ cls := "java/lang/Object", name := "hashCode", desc := "()I" } : Jvm.MethodName)) ∈ lw_all := lw_g (lw_at lw_m5 27 rfl) rfl
theorem q1203 : (Jvm.Cond.selects "RingDominoModel" ({ cls := "java/lang/Object", name := "equals", desc := "(Ljava/lang/Object;)Z" } : Jvm.MethodName) ({ cls := "java/lang/Object", name := "equals", desc := "(Ljava/lang/Object;)Z" } : Jvm.MethodName)) ∈ lw_all := lw_g (lw_at lw_m5 144 rfl) rfl
theorem q2719 : (Jvm.Cond.instantiable "RingDominoModel" (24 : Nat)) ∈ lw_all := lw_g (lw_at lw_m11 220 rfl) rfl
theorem q2721 : (Jvm.Cond.instanceMethod ({ cls := "RingDominoModel", name := "<init>", desc := "()V" } : Jvm.MethodName)) ∈ lw_all := lw_g (lw_at lw_m11 222 rfl) rfl
theorem q2722 : (Jvm.Cond.code ({ cls := "RingDominoModel", name := "<init>", desc := "()V" } : Jvm.MethodName) prog_45_method_1_code (1 : Nat) (Option.none : Option Jvm.ClassFile.FieldType)) ∈ lw_all := lw_g (lw_at lw_m11 223 rfl) rfl
theorem q2723 : (Jvm.Cond.methodLink "RingDominoModel" (1 : Nat) ({ cls := "java/lang/Object", name := "<init>", desc := "()V" } : Jvm.MethodName)) ∈ lw_all := lw_g (lw_at lw_m11 224 rfl) rfl
theorem q2724 : (Jvm.Cond.classLink "RingDominoModel" (32 : Nat) "RingDominoModel$Told") ∈ lw_all := lw_g (lw_at lw_m11 225 rfl) rfl
theorem q2726 : (Jvm.Cond.methodLinkNest "RingDominoModel" (34 : Nat) ({ cls := "RingDominoModel$Told", name := "<init>", desc := "()V" } : Jvm.MethodName) "RingDominoModel") ∈ lw_tbl := lw_at lw_m11 227 rfl
theorem q2731 : (Jvm.Cond.fieldLinkNest "RingDominoModel" (245 : Nat) "RingDominoModel$Told" "columns" "I" "RingDominoModel") ∈ lw_tbl := lw_at lw_m11 232 rfl
theorem q2733 : (Jvm.Cond.fieldLinkNest "RingDominoModel" (248 : Nat) "RingDominoModel$Told" "rows" "I" "RingDominoModel") ∈ lw_tbl := lw_at lw_m11 234 rfl
theorem q2735 : (Jvm.Cond.fieldLinkNest "RingDominoModel" (150 : Nat) "RingDominoModel$Told" "tiles" "I" "RingDominoModel") ∈ lw_tbl := lw_at lw_m11 236 rfl
theorem q2737 : (Jvm.Cond.fieldLinkNest "RingDominoModel" (214 : Nat) "RingDominoModel$Told" "numbers" "[I" "RingDominoModel") ∈ lw_tbl := lw_at lw_m11 238 rfl
theorem q2739 : (Jvm.Cond.fieldLinkNest "RingDominoModel" (220 : Nat) "RingDominoModel$Told" "orders" "I" "RingDominoModel") ∈ lw_tbl := lw_at lw_m12 0 rfl
theorem q2741 : (Jvm.Cond.fieldLinkNest "RingDominoModel" (226 : Nat) "RingDominoModel$Told" "does" "[I" "RingDominoModel") ∈ lw_tbl := lw_at lw_m12 2 rfl
theorem q2743 : (Jvm.Cond.fieldLinkNest "RingDominoModel" (229 : Nat) "RingDominoModel$Told" "tile" "[I" "RingDominoModel") ∈ lw_tbl := lw_at lw_m12 4 rfl
theorem q2745 : (Jvm.Cond.fieldLinkNest "RingDominoModel" (223 : Nat) "RingDominoModel$Told" "from" "[I" "RingDominoModel") ∈ lw_tbl := lw_at lw_m12 6 rfl
theorem q2747 : (Jvm.Cond.fieldLinkNest "RingDominoModel" (237 : Nat) "RingDominoModel$Told" "to" "[I" "RingDominoModel") ∈ lw_tbl := lw_at lw_m12 8 rfl
theorem q2749 : (Jvm.Cond.fieldLinkNest "RingDominoModel" (232 : Nat) "RingDominoModel$Told" "sums" "[I" "RingDominoModel") ∈ lw_tbl := lw_at lw_m12 10 rfl
theorem q2751 : (Jvm.Cond.fieldLinkNest "RingDominoModel" (235 : Nat) "RingDominoModel$Told" "test" "[I" "RingDominoModel") ∈ lw_tbl := lw_at lw_m12 12 rfl
theorem q2753 : (Jvm.Cond.fieldLinkNest "RingDominoModel" (138 : Nat) "RingDominoModel$Told" "nodes" "I" "RingDominoModel") ∈ lw_tbl := lw_at lw_m12 14 rfl
theorem q2755 : (Jvm.Cond.fieldLinkNest "RingDominoModel" (141 : Nat) "RingDominoModel$Told" "sort" "[I" "RingDominoModel") ∈ lw_tbl := lw_at lw_m12 16 rfl
theorem q2757 : (Jvm.Cond.fieldLinkNest "RingDominoModel" (144 : Nat) "RingDominoModel$Told" "left" "[I" "RingDominoModel") ∈ lw_tbl := lw_at lw_m12 18 rfl
theorem q2759 : (Jvm.Cond.fieldLinkNest "RingDominoModel" (147 : Nat) "RingDominoModel$Told" "right" "[I" "RingDominoModel") ∈ lw_tbl := lw_at lw_m12 20 rfl
theorem q2791 : (Jvm.Cond.classLink "RingDominoModel" (45 : Nat) "RingDominoModel$State") ∈ lw_all := lw_g (lw_at lw_m12 52 rfl) rfl
theorem q2793 : (Jvm.Cond.methodLinkNest "RingDominoModel" (47 : Nat) ({ cls := "RingDominoModel$State", name := "<init>", desc := "()V" } : Jvm.MethodName) "RingDominoModel") ∈ lw_tbl := lw_at lw_m12 54 rfl
theorem q2798 : (Jvm.Cond.fieldLinkNest "RingDominoModel" (280 : Nat) "RingDominoModel$State" "at" "[I" "RingDominoModel") ∈ lw_tbl := lw_at lw_m12 59 rfl
theorem q2800 : (Jvm.Cond.fieldLinkNest "RingDominoModel" (293 : Nat) "RingDominoModel$State" "cell" "[I" "RingDominoModel") ∈ lw_tbl := lw_at lw_m12 61 rfl
theorem q2802 : (Jvm.Cond.fieldLinkNest "RingDominoModel" (283 : Nat) "RingDominoModel$State" "turn" "[I" "RingDominoModel") ∈ lw_tbl := lw_at lw_m12 63 rfl
theorem q2804 : (Jvm.Cond.fieldLinkNest "RingDominoModel" (296 : Nat) "RingDominoModel$State" "placed" "I" "RingDominoModel") ∈ lw_tbl := lw_at lw_m12 65 rfl
theorem q2806 : (Jvm.Cond.fieldLinkNest "RingDominoModel" (343 : Nat) "RingDominoModel$State" "rounds" "I" "RingDominoModel") ∈ lw_tbl := lw_at lw_m12 67 rfl
theorem q2818 : (Jvm.Cond.methodLink "RingDominoModel" (62 : Nat) ({ cls := "RingDominoModel$State", name := "begin", desc := "()V" } : Jvm.MethodName)) ∈ lw_all := lw_g (lw_at lw_m12 79 rfl) rfl
theorem q2822 : (Jvm.Cond.fieldLink "RingDominoModel" (65 : Nat) "RingDominoModel" "thrown" "I") ∈ lw_all := lw_g (lw_at lw_m12 83 rfl) rfl
theorem q2823 : (Jvm.Cond.fieldLink "RingDominoModel" (9 : Nat) "RingDominoModel" "tape" "[I") ∈ lw_all := lw_g (lw_at lw_m12 84 rfl) rfl
theorem q2824 : (Jvm.Cond.fieldLink "RingDominoModel" (72 : Nat) "RingDominoModel" "bytes" "I") ∈ lw_all := lw_g (lw_at lw_m12 85 rfl) rfl
theorem q2825 : (Jvm.Cond.fieldLink "RingDominoModel" (13 : Nat) "RingDominoModel" "errorAt" "I") ∈ lw_all := lw_g (lw_at lw_m12 86 rfl) rfl
theorem q2826 : (Jvm.Cond.fieldLink "RingDominoModel" (17 : Nat) "RingDominoModel" "kind" "[I") ∈ lw_all := lw_g (lw_at lw_m12 87 rfl) rfl
theorem q2827 : (Jvm.Cond.fieldLink "RingDominoModel" (20 : Nat) "RingDominoModel" "number" "[I") ∈ lw_all := lw_g (lw_at lw_m12 88 rfl) rfl
theorem q2828 : (Jvm.Cond.fieldLink "RingDominoModel" (23 : Nat) "RingDominoModel" "position" "[I") ∈ lw_all := lw_g (lw_at lw_m12 89 rfl) rfl
theorem q2829 : (Jvm.Cond.fieldLink "RingDominoModel" (26 : Nat) "RingDominoModel" "length" "[I") ∈ lw_all := lw_g (lw_at lw_m12 90 rfl) rfl
theorem q2830 : (Jvm.Cond.fieldLink "RingDominoModel" (120 : Nat) "RingDominoModel" "token" "I") ∈ lw_all := lw_g (lw_at lw_m12 91 rfl) rfl
theorem q2831 : (Jvm.Cond.fieldLink "RingDominoModel" (116 : Nat) "RingDominoModel" "isWrong" "Z") ∈ lw_all := lw_g (lw_at lw_m12 92 rfl) rfl
theorem q2832 : (Jvm.Cond.fieldLink "RingDominoModel" (123 : Nat) "RingDominoModel" "error" "I") ∈ lw_all := lw_g (lw_at lw_m12 93 rfl) rfl
theorem q2833 : (Jvm.Cond.fieldLink "RingDominoModel" (126 : Nat) "RingDominoModel" "errorToken" "I") ∈ lw_all := lw_g (lw_at lw_m12 94 rfl) rfl
theorem q2834 : (Jvm.Cond.fieldLink "RingDominoModel" (135 : Nat) "RingDominoModel" "deep" "I") ∈ lw_all := lw_g (lw_at lw_m12 95 rfl) rfl
theorem q2835 : (Jvm.Cond.fieldLink "RingDominoModel" (29 : Nat) "RingDominoModel" "named" "[I") ∈ lw_all := lw_g (lw_at lw_m12 96 rfl) rfl
theorem q2836 : (Jvm.Cond.fieldLink "RingDominoModel" (35 : Nat) "RingDominoModel" "told" "LRingDominoModel$Told;") ∈ lw_all := lw_g (lw_at lw_m12 97 rfl) rfl
theorem q2837 : (Jvm.Cond.fieldLink "RingDominoModel" (39 : Nat) "RingDominoModel" "fresh" "LRingDominoModel$Told;") ∈ lw_all := lw_g (lw_at lw_m12 98 rfl) rfl
theorem q2838 : (Jvm.Cond.fieldLink "RingDominoModel" (42 : Nat) "RingDominoModel" "value" "[I") ∈ lw_all := lw_g (lw_at lw_m12 99 rfl) rfl
theorem q2839 : (Jvm.Cond.fieldLink "RingDominoModel" (48 : Nat) "RingDominoModel" "now" "LRingDominoModel$State;") ∈ lw_all := lw_g (lw_at lw_m12 100 rfl) rfl
theorem q2840 : (Jvm.Cond.fieldLink "RingDominoModel" (52 : Nat) "RingDominoModel" "ahead" "LRingDominoModel$State;") ∈ lw_all := lw_g (lw_at lw_m12 101 rfl) rfl
theorem q2841 : (Jvm.Cond.fieldLink "RingDominoModel" (55 : Nat) "RingDominoModel" "queue" "[I") ∈ lw_all := lw_g (lw_at lw_m12 102 rfl) rfl
theorem q2842 : (Jvm.Cond.fieldLink "RingDominoModel" (58 : Nat) "RingDominoModel" "isSeen" "[Z") ∈ lw_all := lw_g (lw_at lw_m12 103 rfl) rfl
theorem q2843 : (Jvm.Cond.fieldLink "RingDominoModel" (331 : Nat) "RingDominoModel" "mostGain" "I") ∈ lw_all := lw_g (lw_at lw_m12 104 rfl) rfl
theorem q2844 : (Jvm.Cond.fieldLink "RingDominoModel" (337 : Nat) "RingDominoModel" "mostCell" "I") ∈ lw_all := lw_g (lw_at lw_m12 105 rfl) rfl
theorem q2845 : (Jvm.Cond.fieldLink "RingDominoModel" (340 : Nat) "RingDominoModel" "mostTurn" "I") ∈ lw_all := lw_g (lw_at lw_m12 106 rfl) rfl
theorem q2846 : (Jvm.Cond.lays "RingDominoModel" "RingDominoModel" "thrown" "I") ∈ lw_all := lw_g (lw_at lw_m12 107 rfl) rfl
theorem q2847 : (Jvm.Cond.soleField "RingDominoModel" "thrown") ∈ lw_all := lw_g (lw_at lw_m12 108 rfl) rfl
theorem q2848 : (Jvm.Cond.laysFinal "RingDominoModel" "RingDominoModel" "tape" "[I") ∈ lw_all := lw_g (lw_at lw_m12 109 rfl) rfl
theorem q2849 : (Jvm.Cond.soleField "RingDominoModel" "tape") ∈ lw_all := lw_g (lw_at lw_m12 110 rfl) rfl
theorem q2850 : (Jvm.Cond.lays "RingDominoModel" "RingDominoModel" "bytes" "I") ∈ lw_all := lw_g (lw_at lw_m12 111 rfl) rfl
theorem q2851 : (Jvm.Cond.soleField "RingDominoModel" "bytes") ∈ lw_all := lw_g (lw_at lw_m12 112 rfl) rfl
theorem q2852 : (Jvm.Cond.lays "RingDominoModel" "RingDominoModel" "errorAt" "I") ∈ lw_all := lw_g (lw_at lw_m12 113 rfl) rfl
theorem q2853 : (Jvm.Cond.soleField "RingDominoModel" "errorAt") ∈ lw_all := lw_g (lw_at lw_m12 114 rfl) rfl
theorem q2854 : (Jvm.Cond.laysFinal "RingDominoModel" "RingDominoModel" "kind" "[I") ∈ lw_all := lw_g (lw_at lw_m12 115 rfl) rfl
theorem q2855 : (Jvm.Cond.soleField "RingDominoModel" "kind") ∈ lw_all := lw_g (lw_at lw_m12 116 rfl) rfl
theorem q2856 : (Jvm.Cond.laysFinal "RingDominoModel" "RingDominoModel" "number" "[I") ∈ lw_all := lw_g (lw_at lw_m12 117 rfl) rfl
theorem q2857 : (Jvm.Cond.soleField "RingDominoModel" "number") ∈ lw_all := lw_g (lw_at lw_m12 118 rfl) rfl
theorem q2858 : (Jvm.Cond.laysFinal "RingDominoModel" "RingDominoModel" "position" "[I") ∈ lw_all := lw_g (lw_at lw_m12 119 rfl) rfl
theorem q2859 : (Jvm.Cond.soleField "RingDominoModel" "position") ∈ lw_all := lw_g (lw_at lw_m12 120 rfl) rfl
theorem q2860 : (Jvm.Cond.laysFinal "RingDominoModel" "RingDominoModel" "length" "[I") ∈ lw_all := lw_g (lw_at lw_m12 121 rfl) rfl
theorem q2861 : (Jvm.Cond.soleField "RingDominoModel" "length") ∈ lw_all := lw_g (lw_at lw_m12 122 rfl) rfl
theorem q2862 : (Jvm.Cond.lays "RingDominoModel" "RingDominoModel" "token" "I") ∈ lw_all := lw_g (lw_at lw_m12 123 rfl) rfl
theorem q2863 : (Jvm.Cond.soleField "RingDominoModel" "token") ∈ lw_all := lw_g (lw_at lw_m12 124 rfl) rfl
theorem q2864 : (Jvm.Cond.lays "RingDominoModel" "RingDominoModel" "isWrong" "Z") ∈ lw_all := lw_g (lw_at lw_m12 125 rfl) rfl
theorem q2865 : (Jvm.Cond.soleField "RingDominoModel" "isWrong") ∈ lw_all := lw_g (lw_at lw_m12 126 rfl) rfl
theorem q2866 : (Jvm.Cond.lays "RingDominoModel" "RingDominoModel" "error" "I") ∈ lw_all := lw_g (lw_at lw_m12 127 rfl) rfl
theorem q2867 : (Jvm.Cond.soleField "RingDominoModel" "error") ∈ lw_all := lw_g (lw_at lw_m12 128 rfl) rfl
theorem q2868 : (Jvm.Cond.lays "RingDominoModel" "RingDominoModel" "errorToken" "I") ∈ lw_all := lw_g (lw_at lw_m12 129 rfl) rfl
theorem q2869 : (Jvm.Cond.soleField "RingDominoModel" "errorToken") ∈ lw_all := lw_g (lw_at lw_m12 130 rfl) rfl
theorem q2870 : (Jvm.Cond.lays "RingDominoModel" "RingDominoModel" "deep" "I") ∈ lw_all := lw_g (lw_at lw_m12 131 rfl) rfl
theorem q2871 : (Jvm.Cond.soleField "RingDominoModel" "deep") ∈ lw_all := lw_g (lw_at lw_m12 132 rfl) rfl
theorem q2872 : (Jvm.Cond.laysFinal "RingDominoModel" "RingDominoModel" "named" "[I") ∈ lw_all := lw_g (lw_at lw_m12 133 rfl) rfl
theorem q2873 : (Jvm.Cond.soleField "RingDominoModel" "named") ∈ lw_all := lw_g (lw_at lw_m12 134 rfl) rfl
theorem q2874 : (Jvm.Cond.laysFinal "RingDominoModel" "RingDominoModel" "told" "LRingDominoModel$Told;") ∈ lw_all := lw_g (lw_at lw_m12 135 rfl) rfl
theorem q2875 : (Jvm.Cond.soleField "RingDominoModel" "told") ∈ lw_all := lw_g (lw_at lw_m12 136 rfl) rfl
theorem q2876 : (Jvm.Cond.laysFinal "RingDominoModel" "RingDominoModel" "fresh" "LRingDominoModel$Told;") ∈ lw_all := lw_g (lw_at lw_m12 137 rfl) rfl
theorem q2877 : (Jvm.Cond.soleField "RingDominoModel" "fresh") ∈ lw_all := lw_g (lw_at lw_m12 138 rfl) rfl
theorem q2878 : (Jvm.Cond.laysFinal "RingDominoModel" "RingDominoModel" "value" "[I") ∈ lw_all := lw_g (lw_at lw_m12 139 rfl) rfl
theorem q2879 : (Jvm.Cond.soleField "RingDominoModel" "value") ∈ lw_all := lw_g (lw_at lw_m12 140 rfl) rfl
theorem q2880 : (Jvm.Cond.laysFinal "RingDominoModel" "RingDominoModel" "now" "LRingDominoModel$State;") ∈ lw_all := lw_g (lw_at lw_m12 141 rfl) rfl
theorem q2881 : (Jvm.Cond.soleField "RingDominoModel" "now") ∈ lw_all := lw_g (lw_at lw_m12 142 rfl) rfl
theorem q2882 : (Jvm.Cond.laysFinal "RingDominoModel" "RingDominoModel" "ahead" "LRingDominoModel$State;") ∈ lw_all := lw_g (lw_at lw_m12 143 rfl) rfl
theorem q2883 : (Jvm.Cond.soleField "RingDominoModel" "ahead") ∈ lw_all := lw_g (lw_at lw_m12 144 rfl) rfl
theorem q2884 : (Jvm.Cond.laysFinal "RingDominoModel" "RingDominoModel" "queue" "[I") ∈ lw_all := lw_g (lw_at lw_m12 145 rfl) rfl
theorem q2885 : (Jvm.Cond.soleField "RingDominoModel" "queue") ∈ lw_all := lw_g (lw_at lw_m12 146 rfl) rfl
theorem q2886 : (Jvm.Cond.laysFinal "RingDominoModel" "RingDominoModel" "isSeen" "[Z") ∈ lw_all := lw_g (lw_at lw_m12 147 rfl) rfl
theorem q2887 : (Jvm.Cond.soleField "RingDominoModel" "isSeen") ∈ lw_all := lw_g (lw_at lw_m12 148 rfl) rfl
theorem q2888 : (Jvm.Cond.lays "RingDominoModel" "RingDominoModel" "mostGain" "I") ∈ lw_all := lw_g (lw_at lw_m12 149 rfl) rfl
theorem q2889 : (Jvm.Cond.soleField "RingDominoModel" "mostGain") ∈ lw_all := lw_g (lw_at lw_m12 150 rfl) rfl
theorem q2890 : (Jvm.Cond.lays "RingDominoModel" "RingDominoModel" "mostCell" "I") ∈ lw_all := lw_g (lw_at lw_m12 151 rfl) rfl
theorem q2891 : (Jvm.Cond.soleField "RingDominoModel" "mostCell") ∈ lw_all := lw_g (lw_at lw_m12 152 rfl) rfl
theorem q2892 : (Jvm.Cond.lays "RingDominoModel" "RingDominoModel" "mostTurn" "I") ∈ lw_all := lw_g (lw_at lw_m12 153 rfl) rfl
theorem q2893 : (Jvm.Cond.soleField "RingDominoModel" "mostTurn") ∈ lw_all := lw_g (lw_at lw_m12 154 rfl) rfl
theorem q2894 : (Jvm.Cond.superclass "RingDominoModel" "java/lang/Object") ∈ lw_all := lw_g (lw_at lw_m12 155 rfl) rfl
theorem q2896 : (Jvm.Cond.instanceMethod ({ cls := "RingDominoModel", name := "thrown", desc := "()I" } : Jvm.MethodName)) ∈ lw_all := lw_g (lw_at lw_m12 157 rfl) rfl
theorem q2897 : (Jvm.Cond.selects "RingDominoModel" ({ cls := "RingDominoModel", name := "thrown", desc := "()I" } : Jvm.MethodName) ({ cls := "RingDominoModel", name := "thrown", desc := "()I" } : Jvm.MethodName)) ∈ lw_all := lw_g (lw_at lw_m12 158 rfl) rfl
theorem q2898 : (Jvm.Cond.code ({ cls := "RingDominoModel", name := "thrown", desc := "()I" } : Jvm.MethodName) prog_45_method_2_code (1 : Nat) (Option.some Jvm.ClassFile.FieldType.int)) ∈ lw_all := lw_g (lw_at lw_m12 159 rfl) rfl
theorem q2900 : (Jvm.Cond.instanceMethod ({ cls := "RingDominoModel", name := "feed", desc := "(IIIII)I" } : Jvm.MethodName)) ∈ lw_all := lw_g (lw_at lw_m12 161 rfl) rfl
theorem q2901 : (Jvm.Cond.selects "RingDominoModel" ({ cls := "RingDominoModel", name := "feed", desc := "(IIIII)I" } : Jvm.MethodName) ({ cls := "RingDominoModel", name := "feed", desc := "(IIIII)I" } : Jvm.MethodName)) ∈ lw_all := lw_g (lw_at lw_m12 162 rfl) rfl
theorem q2902 : (Jvm.Cond.code ({ cls := "RingDominoModel", name := "feed", desc := "(IIIII)I" } : Jvm.MethodName) prog_45_method_40_code (12 : Nat) (Option.some Jvm.ClassFile.FieldType.int)) ∈ lw_all := lw_g (lw_at lw_m12 163 rfl) rfl
theorem q2903 : (Jvm.Cond.methodLink "RingDominoModel" (254 : Nat) ({ cls := "RingDominoModel", name := "no", desc := "(I)I" } : Jvm.MethodName)) ∈ lw_all := lw_g (lw_at lw_m12 164 rfl) rfl
theorem q2904 : (Jvm.Cond.privateMethod ({ cls := "RingDominoModel", name := "no", desc := "(I)I" } : Jvm.MethodName)) ∈ lw_tbl := lw_at lw_m12 165 rfl
theorem q2905 : (Jvm.Cond.instanceMethod ({ cls := "RingDominoModel", name := "no", desc := "(I)I" } : Jvm.MethodName)) ∈ lw_all := lw_g (lw_at lw_m12 166 rfl) rfl
theorem q2906 : (Jvm.Cond.code ({ cls := "RingDominoModel", name := "no", desc := "(I)I" } : Jvm.MethodName) prog_45_method_3_code (2 : Nat) (Option.some Jvm.ClassFile.FieldType.int)) ∈ lw_all := lw_g (lw_at lw_m12 167 rfl) rfl
theorem q2908 : (Jvm.Cond.instanceMethod ({ cls := "RingDominoModel", name := "trim", desc := "(I)I" } : Jvm.MethodName)) ∈ lw_all := lw_g (lw_at lw_m12 169 rfl) rfl
theorem q2909 : (Jvm.Cond.selects "RingDominoModel" ({ cls := "RingDominoModel", name := "trim", desc := "(I)I" } : Jvm.MethodName) ({ cls := "RingDominoModel", name := "trim", desc := "(I)I" } : Jvm.MethodName)) ∈ lw_all := lw_g (lw_at lw_m12 170 rfl) rfl
theorem q2910 : (Jvm.Cond.code ({ cls := "RingDominoModel", name := "trim", desc := "(I)I" } : Jvm.MethodName) prog_45_method_41_code (2 : Nat) (Option.some Jvm.ClassFile.FieldType.int)) ∈ lw_all := lw_g (lw_at lw_m12 171 rfl) rfl
theorem q2911 : (Jvm.Cond.methodLink "RingDominoModel" (68 : Nat) ({ cls := "RingDominoModel", name := "isIn", desc := "(III)Z" } : Jvm.MethodName)) ∈ lw_all := lw_g (lw_at lw_m12 172 rfl) rfl
theorem q2912 : (Jvm.Cond.static ({ cls := "RingDominoModel", name := "isIn", desc := "(III)Z" } : Jvm.MethodName)) ∈ lw_all := lw_g (lw_at lw_m12 173 rfl) rfl
theorem q2913 : (Jvm.Cond.code ({ cls := "RingDominoModel", name := "isIn", desc := "(III)Z" } : Jvm.MethodName) prog_45_method_6_code (3 : Nat) (Option.some Jvm.ClassFile.FieldType.boolean)) ∈ lw_all := lw_g (lw_at lw_m12 174 rfl) rfl
theorem q2915 : (Jvm.Cond.instanceMethod ({ cls := "RingDominoModel", name := "teach", desc := "()I" } : Jvm.MethodName)) ∈ lw_all := lw_g (lw_at lw_m12 176 rfl) rfl
theorem q2916 : (Jvm.Cond.selects "RingDominoModel" ({ cls := "RingDominoModel", name := "teach", desc := "()I" } : Jvm.MethodName) ({ cls := "RingDominoModel", name := "teach", desc := "()I" } : Jvm.MethodName)) ∈ lw_all := lw_g (lw_at lw_m12 177 rfl) rfl
theorem q2917 : (Jvm.Cond.code ({ cls := "RingDominoModel", name := "teach", desc := "()I" } : Jvm.MethodName) prog_45_method_42_code (1 : Nat) (Option.some Jvm.ClassFile.FieldType.int)) ∈ lw_all := lw_g (lw_at lw_m12 178 rfl) rfl
theorem q2918 : (Jvm.Cond.methodLink "RingDominoModel" (257 : Nat) ({ cls := "RingDominoModel$Told", name := "begin", desc := "()V" } : Jvm.MethodName)) ∈ lw_all := lw_g (lw_at lw_m12 179 rfl) rfl
theorem q2922 : (Jvm.Cond.methodLink "RingDominoModel" (258 : Nat) ({ cls := "RingDominoModel", name := "readAll", desc := "()V" } : Jvm.MethodName)) ∈ lw_all := lw_g (lw_at lw_m12 183 rfl) rfl
theorem q2923 : (Jvm.Cond.privateMethod ({ cls := "RingDominoModel", name := "readAll", desc := "()V" } : Jvm.MethodName)) ∈ lw_tbl := lw_at lw_m12 184 rfl
theorem q2924 : (Jvm.Cond.instanceMethod ({ cls := "RingDominoModel", name := "readAll", desc := "()V" } : Jvm.MethodName)) ∈ lw_all := lw_g (lw_at lw_m12 185 rfl) rfl
theorem q2925 : (Jvm.Cond.code ({ cls := "RingDominoModel", name := "readAll", desc := "()V" } : Jvm.MethodName) prog_45_method_15_code (3 : Nat) (Option.none : Option Jvm.ClassFile.FieldType)) ∈ lw_all := lw_g (lw_at lw_m12 186 rfl) rfl
theorem q2926 : (Jvm.Cond.methodLink "RingDominoModel" (110 : Nat) ({ cls := "RingDominoModel", name := "skip", desc := "(I)I" } : Jvm.MethodName)) ∈ lw_all := lw_g (lw_at lw_m12 187 rfl) rfl
theorem q2927 : (Jvm.Cond.privateMethod ({ cls := "RingDominoModel", name := "skip", desc := "(I)I" } : Jvm.MethodName)) ∈ lw_tbl := lw_at lw_m12 188 rfl
theorem q2928 : (Jvm.Cond.instanceMethod ({ cls := "RingDominoModel", name := "skip", desc := "(I)I" } : Jvm.MethodName)) ∈ lw_all := lw_g (lw_at lw_m12 189 rfl) rfl
theorem q2929 : (Jvm.Cond.code ({ cls := "RingDominoModel", name := "skip", desc := "(I)I" } : Jvm.MethodName) prog_45_method_14_code (3 : Nat) (Option.some Jvm.ClassFile.FieldType.int)) ∈ lw_all := lw_g (lw_at lw_m12 190 rfl) rfl
theorem q2930 : (Jvm.Cond.methodLink "RingDominoModel" (96 : Nat) ({ cls := "RingDominoModel", name := "byteAt", desc := "(I)I" } : Jvm.MethodName)) ∈ lw_all := lw_g (lw_at lw_m12 191 rfl) rfl
theorem q2931 : (Jvm.Cond.privateMethod ({ cls := "RingDominoModel", name := "byteAt", desc := "(I)I" } : Jvm.MethodName)) ∈ lw_tbl := lw_at lw_m12 192 rfl
theorem q2932 : (Jvm.Cond.instanceMethod ({ cls := "RingDominoModel", name := "byteAt", desc := "(I)I" } : Jvm.MethodName)) ∈ lw_all := lw_g (lw_at lw_m12 193 rfl) rfl
theorem q2933 : (Jvm.Cond.code ({ cls := "RingDominoModel", name := "byteAt", desc := "(I)I" } : Jvm.MethodName) prog_45_method_9_code (2 : Nat) (Option.some Jvm.ClassFile.FieldType.int)) ∈ lw_all := lw_g (lw_at lw_m12 194 rfl) rfl
theorem q2934 : (Jvm.Cond.methodLink "RingDominoModel" (113 : Nat) ({ cls := "RingDominoModel", name := "read", desc := "(II)I" } : Jvm.MethodName)) ∈ lw_all := lw_g (lw_at lw_m12 195 rfl) rfl
theorem q2935 : (Jvm.Cond.privateMethod ({ cls := "RingDominoModel", name := "read", desc := "(II)I" } : Jvm.MethodName)) ∈ lw_tbl := lw_at lw_m12 196 rfl
theorem q2936 : (Jvm.Cond.instanceMethod ({ cls := "RingDominoModel", name := "read", desc := "(II)I" } : Jvm.MethodName)) ∈ lw_all := lw_g (lw_at lw_m12 197 rfl) rfl
theorem q2937 : (Jvm.Cond.code ({ cls := "RingDominoModel", name := "read", desc := "(II)I" } : Jvm.MethodName) prog_45_method_13_code (6 : Nat) (Option.some Jvm.ClassFile.FieldType.int)) ∈ lw_all := lw_g (lw_at lw_m12 198 rfl) rfl
theorem q2938 : (Jvm.Cond.methodLink "RingDominoModel" (92 : Nat) ({ cls := "RingDominoModel", name := "isLetter", desc := "(I)Z" } : Jvm.MethodName)) ∈ lw_all := lw_g (lw_at lw_m12 199 rfl) rfl
theorem q2939 : (Jvm.Cond.static ({ cls := "RingDominoModel", name := "isLetter", desc := "(I)Z" } : Jvm.MethodName)) ∈ lw_all := lw_g (lw_at lw_m12 200 rfl) rfl
theorem q2940 : (Jvm.Cond.code ({ cls := "RingDominoModel", name := "isLetter", desc := "(I)Z" } : Jvm.MethodName) prog_45_method_7_code (1 : Nat) (Option.some Jvm.ClassFile.FieldType.boolean)) ∈ lw_all := lw_g (lw_at lw_m12 201 rfl) rfl
theorem q2941 : (Jvm.Cond.methodLink "RingDominoModel" (100 : Nat) ({ cls := "RingDominoModel", name := "isDigit", desc := "(I)Z" } : Jvm.MethodName)) ∈ lw_all := lw_g (lw_at lw_m12 202 rfl) rfl
theorem q2942 : (Jvm.Cond.static ({ cls := "RingDominoModel", name := "isDigit", desc := "(I)Z" } : Jvm.MethodName)) ∈ lw_all := lw_g (lw_at lw_m12 203 rfl) rfl
theorem q2943 : (Jvm.Cond.code ({ cls := "RingDominoModel", name := "isDigit", desc := "(I)Z" } : Jvm.MethodName) prog_45_method_8_code (1 : Nat) (Option.some Jvm.ClassFile.FieldType.boolean)) ∈ lw_all := lw_g (lw_at lw_m12 204 rfl) rfl
theorem q2944 : (Jvm.Cond.methodLink "RingDominoModel" (103 : Nat) ({ cls := "RingDominoModel", name := "keyword", desc := "(II)I" } : Jvm.MethodName)) ∈ lw_all := lw_g (lw_at lw_m12 205 rfl) rfl
theorem q2945 : (Jvm.Cond.privateMethod ({ cls := "RingDominoModel", name := "keyword", desc := "(II)I" } : Jvm.MethodName)) ∈ lw_tbl := lw_at lw_m12 206 rfl
theorem q2946 : (Jvm.Cond.instanceMethod ({ cls := "RingDominoModel", name := "keyword", desc := "(II)I" } : Jvm.MethodName)) ∈ lw_all := lw_g (lw_at lw_m12 207 rfl) rfl
theorem q2947 : (Jvm.Cond.code ({ cls := "RingDominoModel", name := "keyword", desc := "(II)I" } : Jvm.MethodName) prog_45_method_11_code (4 : Nat) (Option.some Jvm.ClassFile.FieldType.int)) ∈ lw_all := lw_g (lw_at lw_m12 208 rfl) rfl
theorem q2948 : (Jvm.Cond.fieldLink "RingDominoModel" (84 : Nat) "RingDominoModel" "WORDS" "[Ljava/lang/String;") ∈ lw_all := lw_g (lw_at lw_m12 209 rfl) rfl
theorem q2949 : (Jvm.Cond.laysStatic "RingDominoModel" "WORDS" "[Ljava/lang/String;") ∈ lw_tbl := lw_at lw_m12 210 rfl
theorem q2950 : (Jvm.Cond.methodLink "RingDominoModel" (88 : Nat) ({ cls := "RingDominoModel", name := "isWord", desc := "(IILjava/lang/String;)Z" } : Jvm.MethodName)) ∈ lw_all := lw_g (lw_at lw_m12 211 rfl) rfl
theorem q2951 : (Jvm.Cond.privateMethod ({ cls := "RingDominoModel", name := "isWord", desc := "(IILjava/lang/String;)Z" } : Jvm.MethodName)) ∈ lw_tbl := lw_at lw_m12 212 rfl
theorem q2952 : (Jvm.Cond.instanceMethod ({ cls := "RingDominoModel", name := "isWord", desc := "(IILjava/lang/String;)Z" } : Jvm.MethodName)) ∈ lw_all := lw_g (lw_at lw_m12 213 rfl) rfl
theorem q2953 : (Jvm.Cond.code ({ cls := "RingDominoModel", name := "isWord", desc := "(IILjava/lang/String;)Z" } : Jvm.MethodName) prog_45_method_10_code (5 : Nat) (Option.some Jvm.ClassFile.FieldType.boolean)) ∈ lw_all := lw_g (lw_at lw_m12 214 rfl) rfl
theorem q2954 : (Jvm.Cond.methodLink "RingDominoModel" (75 : Nat) ({ cls := "java/lang/String", name := "length", desc := "()I" } : Jvm.MethodName)) ∈ lw_all := lw_g (lw_at lw_m12 215 rfl) rfl
theorem q2955 : (Jvm.Cond.methodLink "RingDominoModel" (80 : Nat) ({ cls := "java/lang/String", name := "charAt", desc := "(I)C" } : Jvm.MethodName)) ∈ lw_all := lw_g (lw_at lw_m12 216 rfl) rfl
theorem q2956 : (Jvm.Cond.methodLink "RingDominoModel" (107 : Nat) ({ cls := "RingDominoModel", name := "symbol", desc := "(I)I" } : Jvm.MethodName)) ∈ lw_all := lw_g (lw_at lw_m12 217 rfl) rfl
theorem q2957 : (Jvm.Cond.static ({ cls := "RingDominoModel", name := "symbol", desc := "(I)I" } : Jvm.MethodName)) ∈ lw_all := lw_g (lw_at lw_m12 218 rfl) rfl
theorem q2958 : (Jvm.Cond.code ({ cls := "RingDominoModel", name := "symbol", desc := "(I)I" } : Jvm.MethodName) prog_45_method_12_code (1 : Nat) (Option.some Jvm.ClassFile.FieldType.int)) ∈ lw_all := lw_g (lw_at lw_m12 219 rfl) rfl
theorem q2959 : (Jvm.Cond.methodLink "RingDominoModel" (261 : Nat) ({ cls := "RingDominoModel", name := "game", desc := "()V" } : Jvm.MethodName)) ∈ lw_all := lw_g (lw_at lw_m12 220 rfl) rfl
theorem q2960 : (Jvm.Cond.privateMethod ({ cls := "RingDominoModel", name := "game", desc := "()V" } : Jvm.MethodName)) ∈ lw_tbl := lw_at lw_m12 221 rfl
theorem q2961 : (Jvm.Cond.instanceMethod ({ cls := "RingDominoModel", name := "game", desc := "()V" } : Jvm.MethodName)) ∈ lw_all := lw_g (lw_at lw_m12 222 rfl) rfl
theorem q2962 : (Jvm.Cond.code ({ cls := "RingDominoModel", name := "game", desc := "()V" } : Jvm.MethodName) prog_45_method_39_code (1 : Nat) (Option.none : Option Jvm.ClassFile.FieldType)) ∈ lw_all := lw_g (lw_at lw_m12 223 rfl) rfl
theorem q2963 : (Jvm.Cond.methodLink "RingDominoModel" (182 : Nat) ({ cls := "RingDominoModel", name := "takes", desc := "(I)Z" } : Jvm.MethodName)) ∈ lw_all := lw_g (lw_at lw_m12 224 rfl) rfl
theorem q2964 : (Jvm.Cond.privateMethod ({ cls := "RingDominoModel", name := "takes", desc := "(I)Z" } : Jvm.MethodName)) ∈ lw_tbl := lw_at lw_m12 225 rfl
theorem q2965 : (Jvm.Cond.instanceMethod ({ cls := "RingDominoModel", name := "takes", desc := "(I)Z" } : Jvm.MethodName)) ∈ lw_all := lw_g (lw_at lw_m12 226 rfl) rfl
theorem q2966 : (Jvm.Cond.code ({ cls := "RingDominoModel", name := "takes", desc := "(I)Z" } : Jvm.MethodName) prog_45_method_19_code (2 : Nat) (Option.some Jvm.ClassFile.FieldType.boolean)) ∈ lw_all := lw_g (lw_at lw_m12 227 rfl) rfl
theorem q2967 : (Jvm.Cond.methodLink "RingDominoModel" (129 : Nat) ({ cls := "RingDominoModel", name := "is", desc := "(I)Z" } : Jvm.MethodName)) ∈ lw_all := lw_g (lw_at lw_m12 228 rfl) rfl
theorem q2968 : (Jvm.Cond.privateMethod ({ cls := "RingDominoModel", name := "is", desc := "(I)Z" } : Jvm.MethodName)) ∈ lw_tbl := lw_at lw_m12 229 rfl
theorem q2969 : (Jvm.Cond.instanceMethod ({ cls := "RingDominoModel", name := "is", desc := "(I)Z" } : Jvm.MethodName)) ∈ lw_all := lw_g (lw_at lw_m12 230 rfl) rfl
theorem q2970 : (Jvm.Cond.code ({ cls := "RingDominoModel", name := "is", desc := "(I)Z" } : Jvm.MethodName) prog_45_method_16_code (2 : Nat) (Option.some Jvm.ClassFile.FieldType.boolean)) ∈ lw_all := lw_g (lw_at lw_m12 231 rfl) rfl
theorem q2971 : (Jvm.Cond.methodLink "RingDominoModel" (217 : Nat) ({ cls := "RingDominoModel", name := "numberIn", desc := "(II)I" } : Jvm.MethodName)) ∈ lw_all := lw_g (lw_at lw_m12 232 rfl) rfl
theorem q2972 : (Jvm.Cond.privateMethod ({ cls := "RingDominoModel", name := "numberIn", desc := "(II)I" } : Jvm.MethodName)) ∈ lw_tbl := lw_at lw_m12 233 rfl
theorem q2973 : (Jvm.Cond.instanceMethod ({ cls := "RingDominoModel", name := "numberIn", desc := "(II)I" } : Jvm.MethodName)) ∈ lw_all := lw_g (lw_at lw_m12 234 rfl) rfl
theorem q2974 : (Jvm.Cond.code ({ cls := "RingDominoModel", name := "numberIn", desc := "(II)I" } : Jvm.MethodName) prog_45_method_35_code (4 : Nat) (Option.some Jvm.ClassFile.FieldType.int)) ∈ lw_all := lw_g (lw_at lw_m12 235 rfl) rfl
theorem q2975 : (Jvm.Cond.methodLink "RingDominoModel" (160 : Nat) ({ cls := "RingDominoModel", name := "mark", desc := "(I)V" } : Jvm.MethodName)) ∈ lw_all := lw_g (lw_at lw_m12 236 rfl) rfl
theorem q2976 : (Jvm.Cond.privateMethod ({ cls := "RingDominoModel", name := "mark", desc := "(I)V" } : Jvm.MethodName)) ∈ lw_tbl := lw_at lw_m12 237 rfl
theorem q2977 : (Jvm.Cond.instanceMethod ({ cls := "RingDominoModel", name := "mark", desc := "(I)V" } : Jvm.MethodName)) ∈ lw_all := lw_g (lw_at lw_m12 238 rfl) rfl
theorem q2978 : (Jvm.Cond.code ({ cls := "RingDominoModel", name := "mark", desc := "(I)V" } : Jvm.MethodName) prog_45_method_21_code (2 : Nat) (Option.none : Option Jvm.ClassFile.FieldType)) ∈ lw_all := lw_g (lw_at lw_m12 239 rfl) rfl
theorem q2979 : (Jvm.Cond.methodLink "RingDominoModel" (164 : Nat) ({ cls := "RingDominoModel", name := "take", desc := "(I)V" } : Jvm.MethodName)) ∈ lw_all := lw_g (lw_at lw_m13 0 rfl) rfl
theorem q2980 : (Jvm.Cond.privateMethod ({ cls := "RingDominoModel", name := "take", desc := "(I)V" } : Jvm.MethodName)) ∈ lw_tbl := lw_at lw_m13 1 rfl
theorem q2981 : (Jvm.Cond.instanceMethod ({ cls := "RingDominoModel", name := "take", desc := "(I)V" } : Jvm.MethodName)) ∈ lw_all := lw_g (lw_at lw_m13 2 rfl) rfl
theorem q2982 : (Jvm.Cond.code ({ cls := "RingDominoModel", name := "take", desc := "(I)V" } : Jvm.MethodName) prog_45_method_18_code (2 : Nat) (Option.none : Option Jvm.ClassFile.FieldType)) ∈ lw_all := lw_g (lw_at lw_m13 3 rfl) rfl
theorem q2983 : (Jvm.Cond.methodLink "RingDominoModel" (132 : Nat) ({ cls := "RingDominoModel", name := "wrong", desc := "()V" } : Jvm.MethodName)) ∈ lw_all := lw_g (lw_at lw_m13 4 rfl) rfl
theorem q2984 : (Jvm.Cond.privateMethod ({ cls := "RingDominoModel", name := "wrong", desc := "()V" } : Jvm.MethodName)) ∈ lw_tbl := lw_at lw_m13 5 rfl
theorem q2985 : (Jvm.Cond.instanceMethod ({ cls := "RingDominoModel", name := "wrong", desc := "()V" } : Jvm.MethodName)) ∈ lw_all := lw_g (lw_at lw_m13 6 rfl) rfl
theorem q2986 : (Jvm.Cond.code ({ cls := "RingDominoModel", name := "wrong", desc := "()V" } : Jvm.MethodName) prog_45_method_17_code (1 : Nat) (Option.none : Option Jvm.ClassFile.FieldType)) ∈ lw_all := lw_g (lw_at lw_m13 7 rfl) rfl
theorem q2987 : (Jvm.Cond.methodLink "RingDominoModel" (251 : Nat) ({ cls := "RingDominoModel", name := "line", desc := "()V" } : Jvm.MethodName)) ∈ lw_all := lw_g (lw_at lw_m13 8 rfl) rfl
theorem q2988 : (Jvm.Cond.privateMethod ({ cls := "RingDominoModel", name := "line", desc := "()V" } : Jvm.MethodName)) ∈ lw_tbl := lw_at lw_m13 9 rfl
theorem q2989 : (Jvm.Cond.instanceMethod ({ cls := "RingDominoModel", name := "line", desc := "()V" } : Jvm.MethodName)) ∈ lw_all := lw_g (lw_at lw_m13 10 rfl) rfl
theorem q2990 : (Jvm.Cond.code ({ cls := "RingDominoModel", name := "line", desc := "()V" } : Jvm.MethodName) prog_45_method_38_code (1 : Nat) (Option.none : Option Jvm.ClassFile.FieldType)) ∈ lw_all := lw_g (lw_at lw_m13 11 rfl) rfl
theorem q2991 : (Jvm.Cond.methodLink "RingDominoModel" (240 : Nat) ({ cls := "RingDominoModel", name := "tile", desc := "()V" } : Jvm.MethodName)) ∈ lw_all := lw_g (lw_at lw_m13 12 rfl) rfl
theorem q2992 : (Jvm.Cond.privateMethod ({ cls := "RingDominoModel", name := "tile", desc := "()V" } : Jvm.MethodName)) ∈ lw_tbl := lw_at lw_m13 13 rfl
theorem q2993 : (Jvm.Cond.instanceMethod ({ cls := "RingDominoModel", name := "tile", desc := "()V" } : Jvm.MethodName)) ∈ lw_all := lw_g (lw_at lw_m13 14 rfl) rfl
theorem q2994 : (Jvm.Cond.code ({ cls := "RingDominoModel", name := "tile", desc := "()V" } : Jvm.MethodName) prog_45_method_36_code (3 : Nat) (Option.none : Option Jvm.ClassFile.FieldType)) ∈ lw_all := lw_g (lw_at lw_m13 15 rfl) rfl
theorem q2995 : (Jvm.Cond.methodLink "RingDominoModel" (211 : Nat) ({ cls := "java/lang/Math", name := "min", desc := "(II)I" } : Jvm.MethodName)) ∈ lw_all := lw_g (lw_at lw_m13 16 rfl) rfl
theorem q2996 : (Jvm.Cond.methodLink "RingDominoModel" (157 : Nat) ({ cls := "RingDominoModel", name := "known", desc := "()I" } : Jvm.MethodName)) ∈ lw_all := lw_g (lw_at lw_m13 17 rfl) rfl
theorem q2997 : (Jvm.Cond.privateMethod ({ cls := "RingDominoModel", name := "known", desc := "()I" } : Jvm.MethodName)) ∈ lw_tbl := lw_at lw_m13 18 rfl
theorem q2998 : (Jvm.Cond.instanceMethod ({ cls := "RingDominoModel", name := "known", desc := "()I" } : Jvm.MethodName)) ∈ lw_all := lw_g (lw_at lw_m13 19 rfl) rfl
theorem q2999 : (Jvm.Cond.code ({ cls := "RingDominoModel", name := "known", desc := "()I" } : Jvm.MethodName) prog_45_method_24_code (2 : Nat) (Option.some Jvm.ClassFile.FieldType.int)) ∈ lw_all := lw_g (lw_at lw_m13 20 rfl) rfl
theorem q3000 : (Jvm.Cond.methodLink "RingDominoModel" (153 : Nat) ({ cls := "RingDominoModel", name := "isSameName", desc := "(II)Z" } : Jvm.MethodName)) ∈ lw_all := lw_g (lw_at lw_m13 21 rfl) rfl
theorem q3001 : (Jvm.Cond.privateMethod ({ cls := "RingDominoModel", name := "isSameName", desc := "(II)Z" } : Jvm.MethodName)) ∈ lw_tbl := lw_at lw_m13 22 rfl
theorem q3002 : (Jvm.Cond.instanceMethod ({ cls := "RingDominoModel", name := "isSameName", desc := "(II)Z" } : Jvm.MethodName)) ∈ lw_all := lw_g (lw_at lw_m13 23 rfl) rfl
theorem q3003 : (Jvm.Cond.code ({ cls := "RingDominoModel", name := "isSameName", desc := "(II)Z" } : Jvm.MethodName) prog_45_method_23_code (4 : Nat) (Option.some Jvm.ClassFile.FieldType.boolean)) ∈ lw_all := lw_g (lw_at lw_m13 24 rfl) rfl
theorem q3004 : (Jvm.Cond.methodLink "RingDominoModel" (242 : Nat) ({ cls := "RingDominoModel", name := "order", desc := "(I)V" } : Jvm.MethodName)) ∈ lw_all := lw_g (lw_at lw_m13 25 rfl) rfl
theorem q3005 : (Jvm.Cond.privateMethod ({ cls := "RingDominoModel", name := "order", desc := "(I)V" } : Jvm.MethodName)) ∈ lw_tbl := lw_at lw_m13 26 rfl
theorem q3006 : (Jvm.Cond.instanceMethod ({ cls := "RingDominoModel", name := "order", desc := "(I)V" } : Jvm.MethodName)) ∈ lw_all := lw_g (lw_at lw_m13 27 rfl) rfl
theorem q3007 : (Jvm.Cond.code ({ cls := "RingDominoModel", name := "order", desc := "(I)V" } : Jvm.MethodName) prog_45_method_37_code (3 : Nat) (Option.none : Option Jvm.ClassFile.FieldType)) ∈ lw_all := lw_g (lw_at lw_m13 28 rfl) rfl
theorem q3008 : (Jvm.Cond.methodLink "RingDominoModel" (185 : Nat) ({ cls := "RingDominoModel", name := "name", desc := "()I" } : Jvm.MethodName)) ∈ lw_all := lw_g (lw_at lw_m13 29 rfl) rfl
theorem q3009 : (Jvm.Cond.privateMethod ({ cls := "RingDominoModel", name := "name", desc := "()I" } : Jvm.MethodName)) ∈ lw_tbl := lw_at lw_m13 30 rfl
theorem q3010 : (Jvm.Cond.instanceMethod ({ cls := "RingDominoModel", name := "name", desc := "()I" } : Jvm.MethodName)) ∈ lw_all := lw_g (lw_at lw_m13 31 rfl) rfl
theorem q3011 : (Jvm.Cond.code ({ cls := "RingDominoModel", name := "name", desc := "()I" } : Jvm.MethodName) prog_45_method_25_code (2 : Nat) (Option.some Jvm.ClassFile.FieldType.int)) ∈ lw_all := lw_g (lw_at lw_m13 32 rfl) rfl
theorem q3012 : (Jvm.Cond.methodLink "RingDominoModel" (167 : Nat) ({ cls := "java/lang/Math", name := "max", desc := "(II)I" } : Jvm.MethodName)) ∈ lw_all := lw_g (lw_at lw_m13 33 rfl) rfl
theorem q3013 : (Jvm.Cond.methodLink "RingDominoModel" (175 : Nat) ({ cls := "RingDominoModel", name := "sum", desc := "()I" } : Jvm.MethodName)) ∈ lw_all := lw_g (lw_at lw_m13 34 rfl) rfl
theorem q3014 : (Jvm.Cond.privateMethod ({ cls := "RingDominoModel", name := "sum", desc := "()I" } : Jvm.MethodName)) ∈ lw_tbl := lw_at lw_m13 35 rfl
theorem q3015 : (Jvm.Cond.instanceMethod ({ cls := "RingDominoModel", name := "sum", desc := "()I" } : Jvm.MethodName)) ∈ lw_all := lw_g (lw_at lw_m13 36 rfl) rfl
theorem q3016 : (Jvm.Cond.code ({ cls := "RingDominoModel", name := "sum", desc := "()I" } : Jvm.MethodName) prog_45_method_30_code (3 : Nat) (Option.some Jvm.ClassFile.FieldType.int)) ∈ lw_all := lw_g (lw_at lw_m13 37 rfl) rfl
theorem q3017 : (Jvm.Cond.methodLink "RingDominoModel" (196 : Nat) ({ cls := "RingDominoModel", name := "product", desc := "()I" } : Jvm.MethodName)) ∈ lw_all := lw_g (lw_at lw_m13 38 rfl) rfl
theorem q3018 : (Jvm.Cond.privateMethod ({ cls := "RingDominoModel", name := "product", desc := "()I" } : Jvm.MethodName)) ∈ lw_tbl := lw_at lw_m13 39 rfl
theorem q3019 : (Jvm.Cond.instanceMethod ({ cls := "RingDominoModel", name := "product", desc := "()I" } : Jvm.MethodName)) ∈ lw_all := lw_g (lw_at lw_m13 40 rfl) rfl
theorem q3020 : (Jvm.Cond.code ({ cls := "RingDominoModel", name := "product", desc := "()I" } : Jvm.MethodName) prog_45_method_29_code (3 : Nat) (Option.some Jvm.ClassFile.FieldType.int)) ∈ lw_all := lw_g (lw_at lw_m13 41 rfl) rfl
theorem q3021 : (Jvm.Cond.methodLink "RingDominoModel" (194 : Nat) ({ cls := "RingDominoModel", name := "value", desc := "()I" } : Jvm.MethodName)) ∈ lw_all := lw_g (lw_at lw_m13 42 rfl) rfl
theorem q3022 : (Jvm.Cond.privateMethod ({ cls := "RingDominoModel", name := "value", desc := "()I" } : Jvm.MethodName)) ∈ lw_tbl := lw_at lw_m13 43 rfl
theorem q3023 : (Jvm.Cond.instanceMethod ({ cls := "RingDominoModel", name := "value", desc := "()I" } : Jvm.MethodName)) ∈ lw_all := lw_g (lw_at lw_m13 44 rfl) rfl
theorem q3024 : (Jvm.Cond.code ({ cls := "RingDominoModel", name := "value", desc := "()I" } : Jvm.MethodName) prog_45_method_28_code (2 : Nat) (Option.some Jvm.ClassFile.FieldType.int)) ∈ lw_all := lw_g (lw_at lw_m13 45 rfl) rfl
theorem q3025 : (Jvm.Cond.methodLink "RingDominoModel" (178 : Nat) ({ cls := "RingDominoModel", name := "node", desc := "(III)I" } : Jvm.MethodName)) ∈ lw_all := lw_g (lw_at lw_m13 46 rfl) rfl
theorem q3026 : (Jvm.Cond.privateMethod ({ cls := "RingDominoModel", name := "node", desc := "(III)I" } : Jvm.MethodName)) ∈ lw_tbl := lw_at lw_m13 47 rfl
theorem q3027 : (Jvm.Cond.instanceMethod ({ cls := "RingDominoModel", name := "node", desc := "(III)I" } : Jvm.MethodName)) ∈ lw_all := lw_g (lw_at lw_m13 48 rfl) rfl
theorem q3028 : (Jvm.Cond.code ({ cls := "RingDominoModel", name := "node", desc := "(III)I" } : Jvm.MethodName) prog_45_method_22_code (5 : Nat) (Option.some Jvm.ClassFile.FieldType.int)) ∈ lw_all := lw_g (lw_at lw_m13 49 rfl) rfl
theorem q3029 : (Jvm.Cond.methodLink "RingDominoModel" (188 : Nat) ({ cls := "RingDominoModel", name := "ofTwo", desc := "(I)I" } : Jvm.MethodName)) ∈ lw_all := lw_g (lw_at lw_m13 50 rfl) rfl
theorem q3030 : (Jvm.Cond.privateMethod ({ cls := "RingDominoModel", name := "ofTwo", desc := "(I)I" } : Jvm.MethodName)) ∈ lw_tbl := lw_at lw_m13 51 rfl
theorem q3031 : (Jvm.Cond.instanceMethod ({ cls := "RingDominoModel", name := "ofTwo", desc := "(I)I" } : Jvm.MethodName)) ∈ lw_all := lw_g (lw_at lw_m13 52 rfl) rfl
theorem q3032 : (Jvm.Cond.code ({ cls := "RingDominoModel", name := "ofTwo", desc := "(I)I" } : Jvm.MethodName) prog_45_method_27_code (4 : Nat) (Option.some Jvm.ClassFile.FieldType.int)) ∈ lw_all := lw_g (lw_at lw_m13 53 rfl) rfl
theorem q3033 : (Jvm.Cond.methodLink "RingDominoModel" (172 : Nat) ({ cls := "RingDominoModel", name := "deeper", desc := "()V" } : Jvm.MethodName)) ∈ lw_all := lw_g (lw_at lw_m13 54 rfl) rfl
theorem q3034 : (Jvm.Cond.privateMethod ({ cls := "RingDominoModel", name := "deeper", desc := "()V" } : Jvm.MethodName)) ∈ lw_tbl := lw_at lw_m13 55 rfl
theorem q3035 : (Jvm.Cond.instanceMethod ({ cls := "RingDominoModel", name := "deeper", desc := "()V" } : Jvm.MethodName)) ∈ lw_all := lw_g (lw_at lw_m13 56 rfl) rfl
theorem q3036 : (Jvm.Cond.code ({ cls := "RingDominoModel", name := "deeper", desc := "()V" } : Jvm.MethodName) prog_45_method_20_code (1 : Nat) (Option.none : Option Jvm.ClassFile.FieldType)) ∈ lw_all := lw_g (lw_at lw_m13 57 rfl) rfl
theorem q3037 : (Jvm.Cond.methodLink "RingDominoModel" (191 : Nat) ({ cls := "RingDominoModel", name := "inBrackets", desc := "()I" } : Jvm.MethodName)) ∈ lw_all := lw_g (lw_at lw_m13 58 rfl) rfl
theorem q3038 : (Jvm.Cond.privateMethod ({ cls := "RingDominoModel", name := "inBrackets", desc := "()I" } : Jvm.MethodName)) ∈ lw_tbl := lw_at lw_m13 59 rfl
theorem q3039 : (Jvm.Cond.instanceMethod ({ cls := "RingDominoModel", name := "inBrackets", desc := "()I" } : Jvm.MethodName)) ∈ lw_all := lw_g (lw_at lw_m13 60 rfl) rfl
theorem q3040 : (Jvm.Cond.code ({ cls := "RingDominoModel", name := "inBrackets", desc := "()I" } : Jvm.MethodName) prog_45_method_26_code (2 : Nat) (Option.some Jvm.ClassFile.FieldType.int)) ∈ lw_all := lw_g (lw_at lw_m13 61 rfl) rfl
theorem q3041 : (Jvm.Cond.methodLink "RingDominoModel" (202 : Nat) ({ cls := "RingDominoModel", name := "test", desc := "()I" } : Jvm.MethodName)) ∈ lw_all := lw_g (lw_at lw_m13 62 rfl) rfl
theorem q3042 : (Jvm.Cond.privateMethod ({ cls := "RingDominoModel", name := "test", desc := "()I" } : Jvm.MethodName)) ∈ lw_tbl := lw_at lw_m13 63 rfl
theorem q3043 : (Jvm.Cond.instanceMethod ({ cls := "RingDominoModel", name := "test", desc := "()I" } : Jvm.MethodName)) ∈ lw_all := lw_g (lw_at lw_m13 64 rfl) rfl
theorem q3044 : (Jvm.Cond.code ({ cls := "RingDominoModel", name := "test", desc := "()I" } : Jvm.MethodName) prog_45_method_34_code (2 : Nat) (Option.some Jvm.ClassFile.FieldType.int)) ∈ lw_all := lw_g (lw_at lw_m13 65 rfl) rfl
theorem q3045 : (Jvm.Cond.methodLink "RingDominoModel" (208 : Nat) ({ cls := "RingDominoModel", name := "both", desc := "()I" } : Jvm.MethodName)) ∈ lw_all := lw_g (lw_at lw_m13 66 rfl) rfl
theorem q3046 : (Jvm.Cond.privateMethod ({ cls := "RingDominoModel", name := "both", desc := "()I" } : Jvm.MethodName)) ∈ lw_tbl := lw_at lw_m13 67 rfl
theorem q3047 : (Jvm.Cond.instanceMethod ({ cls := "RingDominoModel", name := "both", desc := "()I" } : Jvm.MethodName)) ∈ lw_all := lw_g (lw_at lw_m13 68 rfl) rfl
theorem q3048 : (Jvm.Cond.code ({ cls := "RingDominoModel", name := "both", desc := "()I" } : Jvm.MethodName) prog_45_method_33_code (2 : Nat) (Option.some Jvm.ClassFile.FieldType.int)) ∈ lw_all := lw_g (lw_at lw_m13 69 rfl) rfl
theorem q3049 : (Jvm.Cond.methodLink "RingDominoModel" (199 : Nat) ({ cls := "RingDominoModel", name := "single", desc := "()I" } : Jvm.MethodName)) ∈ lw_all := lw_g (lw_at lw_m13 70 rfl) rfl
theorem q3050 : (Jvm.Cond.privateMethod ({ cls := "RingDominoModel", name := "single", desc := "()I" } : Jvm.MethodName)) ∈ lw_tbl := lw_at lw_m13 71 rfl
theorem q3051 : (Jvm.Cond.instanceMethod ({ cls := "RingDominoModel", name := "single", desc := "()I" } : Jvm.MethodName)) ∈ lw_all := lw_g (lw_at lw_m13 72 rfl) rfl
theorem q3052 : (Jvm.Cond.code ({ cls := "RingDominoModel", name := "single", desc := "()I" } : Jvm.MethodName) prog_45_method_32_code (2 : Nat) (Option.some Jvm.ClassFile.FieldType.int)) ∈ lw_all := lw_g (lw_at lw_m13 73 rfl) rfl
theorem q3053 : (Jvm.Cond.methodLink "RingDominoModel" (205 : Nat) ({ cls := "RingDominoModel", name := "comparison", desc := "()I" } : Jvm.MethodName)) ∈ lw_all := lw_g (lw_at lw_m13 74 rfl) rfl
theorem q3054 : (Jvm.Cond.privateMethod ({ cls := "RingDominoModel", name := "comparison", desc := "()I" } : Jvm.MethodName)) ∈ lw_tbl := lw_at lw_m13 75 rfl
theorem q3055 : (Jvm.Cond.instanceMethod ({ cls := "RingDominoModel", name := "comparison", desc := "()I" } : Jvm.MethodName)) ∈ lw_all := lw_g (lw_at lw_m13 76 rfl) rfl
theorem q3056 : (Jvm.Cond.code ({ cls := "RingDominoModel", name := "comparison", desc := "()I" } : Jvm.MethodName) prog_45_method_31_code (3 : Nat) (Option.some Jvm.ClassFile.FieldType.int)) ∈ lw_all := lw_g (lw_at lw_m13 77 rfl) rfl
theorem q3057 : (Jvm.Cond.methodLink "RingDominoModel" (264 : Nat) ({ cls := "RingDominoModel$Told", name := "become", desc := "(LRingDominoModel$Told;)V" } : Jvm.MethodName)) ∈ lw_all := lw_g (lw_at lw_m13 78 rfl) rfl
theorem q3066 : (Jvm.Cond.instanceMethod ({ cls := "RingDominoModel", name := "errorAt", desc := "()I" } : Jvm.MethodName)) ∈ lw_all := lw_g (lw_at lw_m13 87 rfl) rfl
theorem q3067 : (Jvm.Cond.selects "RingDominoModel" ({ cls := "RingDominoModel", name := "errorAt", desc := "()I" } : Jvm.MethodName) ({ cls := "RingDominoModel", name := "errorAt", desc := "()I" } : Jvm.MethodName)) ∈ lw_all := lw_g (lw_at lw_m13 88 rfl) rfl
theorem q3068 : (Jvm.Cond.code ({ cls := "RingDominoModel", name := "errorAt", desc := "()I" } : Jvm.MethodName) prog_45_method_43_code (1 : Nat) (Option.some Jvm.ClassFile.FieldType.int)) ∈ lw_all := lw_g (lw_at lw_m13 89 rfl) rfl
theorem q3069 : (Jvm.Cond.methodLink "RingDominoModel" (268 : Nat) ({ cls := "RingDominoModel", name := "ok", desc := "(I)I" } : Jvm.MethodName)) ∈ lw_all := lw_g (lw_at lw_m13 90 rfl) rfl
theorem q3070 : (Jvm.Cond.privateMethod ({ cls := "RingDominoModel", name := "ok", desc := "(I)I" } : Jvm.MethodName)) ∈ lw_tbl := lw_at lw_m13 91 rfl
theorem q3071 : (Jvm.Cond.instanceMethod ({ cls := "RingDominoModel", name := "ok", desc := "(I)I" } : Jvm.MethodName)) ∈ lw_all := lw_g (lw_at lw_m13 92 rfl) rfl
theorem q3072 : (Jvm.Cond.code ({ cls := "RingDominoModel", name := "ok", desc := "(I)I" } : Jvm.MethodName) prog_45_method_5_code (2 : Nat) (Option.some Jvm.ClassFile.FieldType.int)) ∈ lw_all := lw_g (lw_at lw_m13 93 rfl) rfl
theorem q3074 : (Jvm.Cond.instanceMethod ({ cls := "RingDominoModel", name := "columns", desc := "()I" } : Jvm.MethodName)) ∈ lw_all := lw_g (lw_at lw_m13 95 rfl) rfl
theorem q3075 : (Jvm.Cond.selects "RingDominoModel" ({ cls := "RingDominoModel", name := "columns", desc := "()I" } : Jvm.MethodName) ({ cls := "RingDominoModel", name := "columns", desc := "()I" } : Jvm.MethodName)) ∈ lw_all := lw_g (lw_at lw_m13 96 rfl) rfl
theorem q3076 : (Jvm.Cond.code ({ cls := "RingDominoModel", name := "columns", desc := "()I" } : Jvm.MethodName) prog_45_method_68_code (1 : Nat) (Option.some Jvm.ClassFile.FieldType.int)) ∈ lw_all := lw_g (lw_at lw_m13 97 rfl) rfl
theorem q3078 : (Jvm.Cond.instanceMethod ({ cls := "RingDominoModel", name := "rows", desc := "()I" } : Jvm.MethodName)) ∈ lw_all := lw_g (lw_at lw_m13 99 rfl) rfl
theorem q3079 : (Jvm.Cond.selects "RingDominoModel" ({ cls := "RingDominoModel", name := "rows", desc := "()I" } : Jvm.MethodName) ({ cls := "RingDominoModel", name := "rows", desc := "()I" } : Jvm.MethodName)) ∈ lw_all := lw_g (lw_at lw_m13 100 rfl) rfl
theorem q3080 : (Jvm.Cond.code ({ cls := "RingDominoModel", name := "rows", desc := "()I" } : Jvm.MethodName) prog_45_method_69_code (1 : Nat) (Option.some Jvm.ClassFile.FieldType.int)) ∈ lw_all := lw_g (lw_at lw_m13 101 rfl) rfl
theorem q3082 : (Jvm.Cond.instanceMethod ({ cls := "RingDominoModel", name := "tiles", desc := "()I" } : Jvm.MethodName)) ∈ lw_all := lw_g (lw_at lw_m13 103 rfl) rfl
theorem q3083 : (Jvm.Cond.selects "RingDominoModel" ({ cls := "RingDominoModel", name := "tiles", desc := "()I" } : Jvm.MethodName) ({ cls := "RingDominoModel", name := "tiles", desc := "()I" } : Jvm.MethodName)) ∈ lw_all := lw_g (lw_at lw_m13 104 rfl) rfl
theorem q3084 : (Jvm.Cond.code ({ cls := "RingDominoModel", name := "tiles", desc := "()I" } : Jvm.MethodName) prog_45_method_70_code (1 : Nat) (Option.some Jvm.ClassFile.FieldType.int)) ∈ lw_all := lw_g (lw_at lw_m13 105 rfl) rfl
theorem q3086 : (Jvm.Cond.instanceMethod ({ cls := "RingDominoModel", name := "rounds", desc := "()I" } : Jvm.MethodName)) ∈ lw_all := lw_g (lw_at lw_m13 107 rfl) rfl
theorem q3087 : (Jvm.Cond.selects "RingDominoModel" ({ cls := "RingDominoModel", name := "rounds", desc := "()I" } : Jvm.MethodName) ({ cls := "RingDominoModel", name := "rounds", desc := "()I" } : Jvm.MethodName)) ∈ lw_all := lw_g (lw_at lw_m13 108 rfl) rfl
theorem q3088 : (Jvm.Cond.code ({ cls := "RingDominoModel", name := "rounds", desc := "()I" } : Jvm.MethodName) prog_45_method_71_code (1 : Nat) (Option.some Jvm.ClassFile.FieldType.int)) ∈ lw_all := lw_g (lw_at lw_m13 109 rfl) rfl
theorem q3090 : (Jvm.Cond.instanceMethod ({ cls := "RingDominoModel", name := "placedTiles", desc := "()I" } : Jvm.MethodName)) ∈ lw_all := lw_g (lw_at lw_m13 111 rfl) rfl
theorem q3091 : (Jvm.Cond.selects "RingDominoModel" ({ cls := "RingDominoModel", name := "placedTiles", desc := "()I" } : Jvm.MethodName) ({ cls := "RingDominoModel", name := "placedTiles", desc := "()I" } : Jvm.MethodName)) ∈ lw_all := lw_g (lw_at lw_m13 112 rfl) rfl
theorem q3092 : (Jvm.Cond.code ({ cls := "RingDominoModel", name := "placedTiles", desc := "()I" } : Jvm.MethodName) prog_45_method_72_code (1 : Nat) (Option.some Jvm.ClassFile.FieldType.int)) ∈ lw_all := lw_g (lw_at lw_m13 113 rfl) rfl
theorem q3094 : (Jvm.Cond.instanceMethod ({ cls := "RingDominoModel", name := "matches", desc := "()I" } : Jvm.MethodName)) ∈ lw_all := lw_g (lw_at lw_m13 115 rfl) rfl
theorem q3095 : (Jvm.Cond.selects "RingDominoModel" ({ cls := "RingDominoModel", name := "matches", desc := "()I" } : Jvm.MethodName) ({ cls := "RingDominoModel", name := "matches", desc := "()I" } : Jvm.MethodName)) ∈ lw_all := lw_g (lw_at lw_m13 116 rfl) rfl
theorem q3096 : (Jvm.Cond.code ({ cls := "RingDominoModel", name := "matches", desc := "()I" } : Jvm.MethodName) prog_45_method_73_code (1 : Nat) (Option.some Jvm.ClassFile.FieldType.int)) ∈ lw_all := lw_g (lw_at lw_m13 117 rfl) rfl
theorem q3097 : (Jvm.Cond.methodLink "RingDominoModel" (346 : Nat) ({ cls := "RingDominoModel", name := "matches", desc := "(LRingDominoModel$State;)I" } : Jvm.MethodName)) ∈ lw_all := lw_g (lw_at lw_m13 118 rfl) rfl
theorem q3098 : (Jvm.Cond.privateMethod ({ cls := "RingDominoModel", name := "matches", desc := "(LRingDominoModel$State;)I" } : Jvm.MethodName)) ∈ lw_tbl := lw_at lw_m13 119 rfl
theorem q3099 : (Jvm.Cond.instanceMethod ({ cls := "RingDominoModel", name := "matches", desc := "(LRingDominoModel$State;)I" } : Jvm.MethodName)) ∈ lw_all := lw_g (lw_at lw_m13 120 rfl) rfl
theorem q3100 : (Jvm.Cond.code ({ cls := "RingDominoModel", name := "matches", desc := "(LRingDominoModel$State;)I" } : Jvm.MethodName) prog_45_method_56_code (4 : Nat) (Option.some Jvm.ClassFile.FieldType.int)) ∈ lw_all := lw_g (lw_at lw_m13 121 rfl) rfl
theorem q3101 : (Jvm.Cond.methodLink "RingDominoModel" (307 : Nat) ({ cls := "RingDominoModel", name := "cells", desc := "()I" } : Jvm.MethodName)) ∈ lw_all := lw_g (lw_at lw_m13 122 rfl) rfl
theorem q3102 : (Jvm.Cond.privateMethod ({ cls := "RingDominoModel", name := "cells", desc := "()I" } : Jvm.MethodName)) ∈ lw_tbl := lw_at lw_m13 123 rfl
theorem q3103 : (Jvm.Cond.instanceMethod ({ cls := "RingDominoModel", name := "cells", desc := "()I" } : Jvm.MethodName)) ∈ lw_all := lw_g (lw_at lw_m13 124 rfl) rfl
theorem q3104 : (Jvm.Cond.code ({ cls := "RingDominoModel", name := "cells", desc := "()I" } : Jvm.MethodName) prog_45_method_44_code (1 : Nat) (Option.some Jvm.ClassFile.FieldType.int)) ∈ lw_all := lw_g (lw_at lw_m13 125 rfl) rfl
theorem q3105 : (Jvm.Cond.methodLink "RingDominoModel" (299 : Nat) ({ cls := "RingDominoModel", name := "tilesBeside", desc := "(LRingDominoModel$State;I)I" } : Jvm.MethodName)) ∈ lw_all := lw_g (lw_at lw_m13 126 rfl) rfl
theorem q3106 : (Jvm.Cond.privateMethod ({ cls := "RingDominoModel", name := "tilesBeside", desc := "(LRingDominoModel$State;I)I" } : Jvm.MethodName)) ∈ lw_tbl := lw_at lw_m13 127 rfl
theorem q3107 : (Jvm.Cond.instanceMethod ({ cls := "RingDominoModel", name := "tilesBeside", desc := "(LRingDominoModel$State;I)I" } : Jvm.MethodName)) ∈ lw_all := lw_g (lw_at lw_m13 128 rfl) rfl
theorem q3108 : (Jvm.Cond.code ({ cls := "RingDominoModel", name := "tilesBeside", desc := "(LRingDominoModel$State;I)I" } : Jvm.MethodName) prog_45_method_50_code (5 : Nat) (Option.some Jvm.ClassFile.FieldType.int)) ∈ lw_all := lw_g (lw_at lw_m13 129 rfl) rfl
theorem q3109 : (Jvm.Cond.methodLink "RingDominoModel" (289 : Nat) ({ cls := "RingDominoModel", name := "tileBeside", desc := "(LRingDominoModel$State;II)I" } : Jvm.MethodName)) ∈ lw_all := lw_g (lw_at lw_m13 130 rfl) rfl
theorem q3110 : (Jvm.Cond.privateMethod ({ cls := "RingDominoModel", name := "tileBeside", desc := "(LRingDominoModel$State;II)I" } : Jvm.MethodName)) ∈ lw_tbl := lw_at lw_m13 131 rfl
theorem q3111 : (Jvm.Cond.instanceMethod ({ cls := "RingDominoModel", name := "tileBeside", desc := "(LRingDominoModel$State;II)I" } : Jvm.MethodName)) ∈ lw_all := lw_g (lw_at lw_m13 132 rfl) rfl
theorem q3112 : (Jvm.Cond.code ({ cls := "RingDominoModel", name := "tileBeside", desc := "(LRingDominoModel$State;II)I" } : Jvm.MethodName) prog_45_method_46_code (5 : Nat) (Option.some Jvm.ClassFile.FieldType.int)) ∈ lw_all := lw_g (lw_at lw_m13 133 rfl) rfl
theorem q3113 : (Jvm.Cond.methodLink "RingDominoModel" (277 : Nat) ({ cls := "RingDominoModel", name := "beside", desc := "(II)I" } : Jvm.MethodName)) ∈ lw_all := lw_g (lw_at lw_m13 134 rfl) rfl
theorem q3114 : (Jvm.Cond.privateMethod ({ cls := "RingDominoModel", name := "beside", desc := "(II)I" } : Jvm.MethodName)) ∈ lw_tbl := lw_at lw_m13 135 rfl
theorem q3115 : (Jvm.Cond.instanceMethod ({ cls := "RingDominoModel", name := "beside", desc := "(II)I" } : Jvm.MethodName)) ∈ lw_all := lw_g (lw_at lw_m13 136 rfl) rfl
theorem q3116 : (Jvm.Cond.code ({ cls := "RingDominoModel", name := "beside", desc := "(II)I" } : Jvm.MethodName) prog_45_method_45_code (5 : Nat) (Option.some Jvm.ClassFile.FieldType.int)) ∈ lw_all := lw_g (lw_at lw_m13 137 rfl) rfl
theorem q3117 : (Jvm.Cond.fieldLink "RingDominoModel" (271 : Nat) "RingDominoModel" "RIGHT" "[I") ∈ lw_all := lw_g (lw_at lw_m13 138 rfl) rfl
theorem q3118 : (Jvm.Cond.laysStatic "RingDominoModel" "RIGHT" "[I") ∈ lw_tbl := lw_at lw_m13 139 rfl
theorem q3119 : (Jvm.Cond.fieldLink "RingDominoModel" (274 : Nat) "RingDominoModel" "DOWN" "[I") ∈ lw_all := lw_g (lw_at lw_m13 140 rfl) rfl
theorem q3120 : (Jvm.Cond.laysStatic "RingDominoModel" "DOWN" "[I") ∈ lw_tbl := lw_at lw_m13 141 rfl
theorem q3122 : (Jvm.Cond.instanceMethod ({ cls := "RingDominoModel", name := "points", desc := "()I" } : Jvm.MethodName)) ∈ lw_all := lw_g (lw_at lw_m13 143 rfl) rfl
theorem q3123 : (Jvm.Cond.selects "RingDominoModel" ({ cls := "RingDominoModel", name := "points", desc := "()I" } : Jvm.MethodName) ({ cls := "RingDominoModel", name := "points", desc := "()I" } : Jvm.MethodName)) ∈ lw_all := lw_g (lw_at lw_m13 144 rfl) rfl
theorem q3124 : (Jvm.Cond.code ({ cls := "RingDominoModel", name := "points", desc := "()I" } : Jvm.MethodName) prog_45_method_74_code (1 : Nat) (Option.some Jvm.ClassFile.FieldType.int)) ∈ lw_all := lw_g (lw_at lw_m13 145 rfl) rfl
theorem q3125 : (Jvm.Cond.methodLink "RingDominoModel" (349 : Nat) ({ cls := "RingDominoModel", name := "points", desc := "(LRingDominoModel$State;)I" } : Jvm.MethodName)) ∈ lw_all := lw_g (lw_at lw_m13 146 rfl) rfl
theorem q3126 : (Jvm.Cond.privateMethod ({ cls := "RingDominoModel", name := "points", desc := "(LRingDominoModel$State;)I" } : Jvm.MethodName)) ∈ lw_tbl := lw_at lw_m13 147 rfl
theorem q3127 : (Jvm.Cond.instanceMethod ({ cls := "RingDominoModel", name := "points", desc := "(LRingDominoModel$State;)I" } : Jvm.MethodName)) ∈ lw_all := lw_g (lw_at lw_m13 148 rfl) rfl
theorem q3128 : (Jvm.Cond.code ({ cls := "RingDominoModel", name := "points", desc := "(LRingDominoModel$State;)I" } : Jvm.MethodName) prog_45_method_58_code (2 : Nat) (Option.some Jvm.ClassFile.FieldType.int)) ∈ lw_all := lw_g (lw_at lw_m13 149 rfl) rfl
theorem q3129 : (Jvm.Cond.methodLink "RingDominoModel" (321 : Nat) ({ cls := "RingDominoModel", name := "matched", desc := "(LRingDominoModel$State;)I" } : Jvm.MethodName)) ∈ lw_all := lw_g (lw_at lw_m13 150 rfl) rfl
theorem q3130 : (Jvm.Cond.privateMethod ({ cls := "RingDominoModel", name := "matched", desc := "(LRingDominoModel$State;)I" } : Jvm.MethodName)) ∈ lw_tbl := lw_at lw_m13 151 rfl
theorem q3131 : (Jvm.Cond.instanceMethod ({ cls := "RingDominoModel", name := "matched", desc := "(LRingDominoModel$State;)I" } : Jvm.MethodName)) ∈ lw_all := lw_g (lw_at lw_m13 152 rfl) rfl
theorem q3132 : (Jvm.Cond.code ({ cls := "RingDominoModel", name := "matched", desc := "(LRingDominoModel$State;)I" } : Jvm.MethodName) prog_45_method_57_code (5 : Nat) (Option.some Jvm.ClassFile.FieldType.int)) ∈ lw_all := lw_g (lw_at lw_m13 153 rfl) rfl
theorem q3133 : (Jvm.Cond.methodLink "RingDominoModel" (318 : Nat) ({ cls := "RingDominoModel", name := "numberAt", desc := "(LRingDominoModel$State;II)I" } : Jvm.MethodName)) ∈ lw_all := lw_g (lw_at lw_m13 154 rfl) rfl
theorem q3134 : (Jvm.Cond.privateMethod ({ cls := "RingDominoModel", name := "numberAt", desc := "(LRingDominoModel$State;II)I" } : Jvm.MethodName)) ∈ lw_tbl := lw_at lw_m13 155 rfl
theorem q3135 : (Jvm.Cond.instanceMethod ({ cls := "RingDominoModel", name := "numberAt", desc := "(LRingDominoModel$State;II)I" } : Jvm.MethodName)) ∈ lw_all := lw_g (lw_at lw_m13 156 rfl) rfl
theorem q3136 : (Jvm.Cond.code ({ cls := "RingDominoModel", name := "numberAt", desc := "(LRingDominoModel$State;II)I" } : Jvm.MethodName) prog_45_method_48_code (4 : Nat) (Option.some Jvm.ClassFile.FieldType.int)) ∈ lw_all := lw_g (lw_at lw_m13 157 rfl) rfl
theorem q3137 : (Jvm.Cond.methodLink "RingDominoModel" (286 : Nat) ({ cls := "RingDominoModel", name := "numberOf", desc := "(III)I" } : Jvm.MethodName)) ∈ lw_all := lw_g (lw_at lw_m13 158 rfl) rfl
theorem q3138 : (Jvm.Cond.privateMethod ({ cls := "RingDominoModel", name := "numberOf", desc := "(III)I" } : Jvm.MethodName)) ∈ lw_tbl := lw_at lw_m13 159 rfl
theorem q3139 : (Jvm.Cond.instanceMethod ({ cls := "RingDominoModel", name := "numberOf", desc := "(III)I" } : Jvm.MethodName)) ∈ lw_all := lw_g (lw_at lw_m13 160 rfl) rfl
theorem q3140 : (Jvm.Cond.code ({ cls := "RingDominoModel", name := "numberOf", desc := "(III)I" } : Jvm.MethodName) prog_45_method_47_code (4 : Nat) (Option.some Jvm.ClassFile.FieldType.int)) ∈ lw_all := lw_g (lw_at lw_m13 161 rfl) rfl
theorem q3141 : (Jvm.Cond.methodLink "RingDominoModel" (325 : Nat) ({ cls := "RingDominoModel", name := "rings", desc := "(LRingDominoModel$State;)I" } : Jvm.MethodName)) ∈ lw_all := lw_g (lw_at lw_m13 162 rfl) rfl
theorem q3142 : (Jvm.Cond.privateMethod ({ cls := "RingDominoModel", name := "rings", desc := "(LRingDominoModel$State;)I" } : Jvm.MethodName)) ∈ lw_tbl := lw_at lw_m13 163 rfl
theorem q3143 : (Jvm.Cond.instanceMethod ({ cls := "RingDominoModel", name := "rings", desc := "(LRingDominoModel$State;)I" } : Jvm.MethodName)) ∈ lw_all := lw_g (lw_at lw_m13 164 rfl) rfl
theorem q3144 : (Jvm.Cond.code ({ cls := "RingDominoModel", name := "rings", desc := "(LRingDominoModel$State;)I" } : Jvm.MethodName) prog_45_method_55_code (4 : Nat) (Option.some Jvm.ClassFile.FieldType.int)) ∈ lw_all := lw_g (lw_at lw_m13 165 rfl) rfl
theorem q3145 : (Jvm.Cond.methodLink "RingDominoModel" (314 : Nat) ({ cls := "RingDominoModel", name := "ring", desc := "(LRingDominoModel$State;I)Z" } : Jvm.MethodName)) ∈ lw_all := lw_g (lw_at lw_m13 166 rfl) rfl
theorem q3146 : (Jvm.Cond.privateMethod ({ cls := "RingDominoModel", name := "ring", desc := "(LRingDominoModel$State;I)Z" } : Jvm.MethodName)) ∈ lw_tbl := lw_at lw_m13 167 rfl
theorem q3147 : (Jvm.Cond.instanceMethod ({ cls := "RingDominoModel", name := "ring", desc := "(LRingDominoModel$State;I)Z" } : Jvm.MethodName)) ∈ lw_all := lw_g (lw_at lw_m13 168 rfl) rfl
theorem q3148 : (Jvm.Cond.code ({ cls := "RingDominoModel", name := "ring", desc := "(LRingDominoModel$State;I)Z" } : Jvm.MethodName) prog_45_method_54_code (3 : Nat) (Option.some Jvm.ClassFile.FieldType.boolean)) ∈ lw_all := lw_g (lw_at lw_m13 169 rfl) rfl
theorem q3150 : (Jvm.Cond.instanceMethod ({ cls := "RingDominoModel", name := "rings", desc := "()I" } : Jvm.MethodName)) ∈ lw_all := lw_g (lw_at lw_m13 171 rfl) rfl
theorem q3151 : (Jvm.Cond.selects "RingDominoModel" ({ cls := "RingDominoModel", name := "rings", desc := "()I" } : Jvm.MethodName) ({ cls := "RingDominoModel", name := "rings", desc := "()I" } : Jvm.MethodName)) ∈ lw_all := lw_g (lw_at lw_m13 172 rfl) rfl
theorem q3152 : (Jvm.Cond.code ({ cls := "RingDominoModel", name := "rings", desc := "()I" } : Jvm.MethodName) prog_45_method_75_code (1 : Nat) (Option.some Jvm.ClassFile.FieldType.int)) ∈ lw_all := lw_g (lw_at lw_m13 173 rfl) rfl
theorem q3154 : (Jvm.Cond.instanceMethod ({ cls := "RingDominoModel", name := "groups", desc := "()I" } : Jvm.MethodName)) ∈ lw_all := lw_g (lw_at lw_m13 175 rfl) rfl
theorem q3155 : (Jvm.Cond.selects "RingDominoModel" ({ cls := "RingDominoModel", name := "groups", desc := "()I" } : Jvm.MethodName) ({ cls := "RingDominoModel", name := "groups", desc := "()I" } : Jvm.MethodName)) ∈ lw_all := lw_g (lw_at lw_m13 176 rfl) rfl
theorem q3156 : (Jvm.Cond.code ({ cls := "RingDominoModel", name := "groups", desc := "()I" } : Jvm.MethodName) prog_45_method_78_code (1 : Nat) (Option.some Jvm.ClassFile.FieldType.int)) ∈ lw_all := lw_g (lw_at lw_m13 177 rfl) rfl
theorem q3157 : (Jvm.Cond.methodLink "RingDominoModel" (385 : Nat) ({ cls := "RingDominoModel", name := "groupsOf", desc := "()I" } : Jvm.MethodName)) ∈ lw_all := lw_g (lw_at lw_m13 178 rfl) rfl
theorem q3158 : (Jvm.Cond.privateMethod ({ cls := "RingDominoModel", name := "groupsOf", desc := "()I" } : Jvm.MethodName)) ∈ lw_tbl := lw_at lw_m13 179 rfl
theorem q3159 : (Jvm.Cond.instanceMethod ({ cls := "RingDominoModel", name := "groupsOf", desc := "()I" } : Jvm.MethodName)) ∈ lw_all := lw_g (lw_at lw_m13 180 rfl) rfl
theorem q3160 : (Jvm.Cond.code ({ cls := "RingDominoModel", name := "groupsOf", desc := "()I" } : Jvm.MethodName) prog_45_method_77_code (3 : Nat) (Option.some Jvm.ClassFile.FieldType.int)) ∈ lw_all := lw_g (lw_at lw_m13 181 rfl) rfl
theorem q3161 : (Jvm.Cond.methodLink "RingDominoModel" (382 : Nat) ({ cls := "RingDominoModel", name := "reach", desc := "(I)V" } : Jvm.MethodName)) ∈ lw_all := lw_g (lw_at lw_m13 182 rfl) rfl
theorem q3162 : (Jvm.Cond.privateMethod ({ cls := "RingDominoModel", name := "reach", desc := "(I)V" } : Jvm.MethodName)) ∈ lw_tbl := lw_at lw_m13 183 rfl
theorem q3163 : (Jvm.Cond.instanceMethod ({ cls := "RingDominoModel", name := "reach", desc := "(I)V" } : Jvm.MethodName)) ∈ lw_all := lw_g (lw_at lw_m13 184 rfl) rfl
theorem q3164 : (Jvm.Cond.code ({ cls := "RingDominoModel", name := "reach", desc := "(I)V" } : Jvm.MethodName) prog_45_method_76_code (6 : Nat) (Option.none : Option Jvm.ClassFile.FieldType)) ∈ lw_all := lw_g (lw_at lw_m13 185 rfl) rfl
theorem q3166 : (Jvm.Cond.instanceMethod ({ cls := "RingDominoModel", name := "hasTile", desc := "(I)Z" } : Jvm.MethodName)) ∈ lw_all := lw_g (lw_at lw_m13 187 rfl) rfl
theorem q3167 : (Jvm.Cond.selects "RingDominoModel" ({ cls := "RingDominoModel", name := "hasTile", desc := "(I)Z" } : Jvm.MethodName) ({ cls := "RingDominoModel", name := "hasTile", desc := "(I)Z" } : Jvm.MethodName)) ∈ lw_all := lw_g (lw_at lw_m13 188 rfl) rfl
theorem q3168 : (Jvm.Cond.code ({ cls := "RingDominoModel", name := "hasTile", desc := "(I)Z" } : Jvm.MethodName) prog_45_method_82_code (2 : Nat) (Option.some Jvm.ClassFile.FieldType.boolean)) ∈ lw_all := lw_g (lw_at lw_m13 189 rfl) rfl
theorem q3169 : (Jvm.Cond.methodLink "RingDominoModel" (388 : Nat) ({ cls := "RingDominoModel", name := "isCell", desc := "(I)Z" } : Jvm.MethodName)) ∈ lw_all := lw_g (lw_at lw_m13 190 rfl) rfl
theorem q3170 : (Jvm.Cond.privateMethod ({ cls := "RingDominoModel", name := "isCell", desc := "(I)Z" } : Jvm.MethodName)) ∈ lw_tbl := lw_at lw_m13 191 rfl
theorem q3171 : (Jvm.Cond.instanceMethod ({ cls := "RingDominoModel", name := "isCell", desc := "(I)Z" } : Jvm.MethodName)) ∈ lw_all := lw_g (lw_at lw_m13 192 rfl) rfl
theorem q3172 : (Jvm.Cond.code ({ cls := "RingDominoModel", name := "isCell", desc := "(I)Z" } : Jvm.MethodName) prog_45_method_79_code (2 : Nat) (Option.some Jvm.ClassFile.FieldType.boolean)) ∈ lw_all := lw_g (lw_at lw_m13 193 rfl) rfl
theorem q3173 : (Jvm.Cond.methodLink "RingDominoModel" (391 : Nat) ({ cls := "RingDominoModel", name := "isNot", desc := "(I)Z" } : Jvm.MethodName)) ∈ lw_all := lw_g (lw_at lw_m13 194 rfl) rfl
theorem q3174 : (Jvm.Cond.privateMethod ({ cls := "RingDominoModel", name := "isNot", desc := "(I)Z" } : Jvm.MethodName)) ∈ lw_tbl := lw_at lw_m13 195 rfl
theorem q3175 : (Jvm.Cond.instanceMethod ({ cls := "RingDominoModel", name := "isNot", desc := "(I)Z" } : Jvm.MethodName)) ∈ lw_all := lw_g (lw_at lw_m13 196 rfl) rfl
theorem q3176 : (Jvm.Cond.code ({ cls := "RingDominoModel", name := "isNot", desc := "(I)Z" } : Jvm.MethodName) prog_45_method_4_code (2 : Nat) (Option.some Jvm.ClassFile.FieldType.boolean)) ∈ lw_all := lw_g (lw_at lw_m13 197 rfl) rfl
theorem q3178 : (Jvm.Cond.instanceMethod ({ cls := "RingDominoModel", name := "tileAt", desc := "(I)I" } : Jvm.MethodName)) ∈ lw_all := lw_g (lw_at lw_m13 199 rfl) rfl
theorem q3179 : (Jvm.Cond.selects "RingDominoModel" ({ cls := "RingDominoModel", name := "tileAt", desc := "(I)I" } : Jvm.MethodName) ({ cls := "RingDominoModel", name := "tileAt", desc := "(I)I" } : Jvm.MethodName)) ∈ lw_all := lw_g (lw_at lw_m13 200 rfl) rfl
theorem q3180 : (Jvm.Cond.code ({ cls := "RingDominoModel", name := "tileAt", desc := "(I)I" } : Jvm.MethodName) prog_45_method_83_code (2 : Nat) (Option.some Jvm.ClassFile.FieldType.int)) ∈ lw_all := lw_g (lw_at lw_m13 201 rfl) rfl
theorem q3182 : (Jvm.Cond.instanceMethod ({ cls := "RingDominoModel", name := "numberAt", desc := "(II)I" } : Jvm.MethodName)) ∈ lw_all := lw_g (lw_at lw_m13 203 rfl) rfl
theorem q3183 : (Jvm.Cond.selects "RingDominoModel" ({ cls := "RingDominoModel", name := "numberAt", desc := "(II)I" } : Jvm.MethodName) ({ cls := "RingDominoModel", name := "numberAt", desc := "(II)I" } : Jvm.MethodName)) ∈ lw_all := lw_g (lw_at lw_m13 204 rfl) rfl
theorem q3184 : (Jvm.Cond.code ({ cls := "RingDominoModel", name := "numberAt", desc := "(II)I" } : Jvm.MethodName) prog_45_method_84_code (3 : Nat) (Option.some Jvm.ClassFile.FieldType.int)) ∈ lw_all := lw_g (lw_at lw_m13 205 rfl) rfl
theorem q3185 : (Jvm.Cond.methodLink "RingDominoModel" (394 : Nat) ({ cls := "RingDominoModel", name := "isEdge", desc := "(I)Z" } : Jvm.MethodName)) ∈ lw_all := lw_g (lw_at lw_m13 206 rfl) rfl
theorem q3186 : (Jvm.Cond.static ({ cls := "RingDominoModel", name := "isEdge", desc := "(I)Z" } : Jvm.MethodName)) ∈ lw_all := lw_g (lw_at lw_m13 207 rfl) rfl
theorem q3187 : (Jvm.Cond.code ({ cls := "RingDominoModel", name := "isEdge", desc := "(I)Z" } : Jvm.MethodName) prog_45_method_81_code (1 : Nat) (Option.some Jvm.ClassFile.FieldType.boolean)) ∈ lw_all := lw_g (lw_at lw_m13 208 rfl) rfl
theorem q3189 : (Jvm.Cond.instanceMethod ({ cls := "RingDominoModel", name := "matchesOf", desc := "(I)I" } : Jvm.MethodName)) ∈ lw_all := lw_g (lw_at lw_m13 210 rfl) rfl
theorem q3190 : (Jvm.Cond.selects "RingDominoModel" ({ cls := "RingDominoModel", name := "matchesOf", desc := "(I)I" } : Jvm.MethodName) ({ cls := "RingDominoModel", name := "matchesOf", desc := "(I)I" } : Jvm.MethodName)) ∈ lw_all := lw_g (lw_at lw_m13 211 rfl) rfl
theorem q3191 : (Jvm.Cond.code ({ cls := "RingDominoModel", name := "matchesOf", desc := "(I)I" } : Jvm.MethodName) prog_45_method_86_code (2 : Nat) (Option.some Jvm.ClassFile.FieldType.int)) ∈ lw_all := lw_g (lw_at lw_m13 212 rfl) rfl
theorem q3192 : (Jvm.Cond.methodLink "RingDominoModel" (397 : Nat) ({ cls := "RingDominoModel", name := "matchesAt", desc := "(I)I" } : Jvm.MethodName)) ∈ lw_all := lw_g (lw_at lw_m13 213 rfl) rfl
theorem q3193 : (Jvm.Cond.privateMethod ({ cls := "RingDominoModel", name := "matchesAt", desc := "(I)I" } : Jvm.MethodName)) ∈ lw_tbl := lw_at lw_m13 214 rfl
theorem q3194 : (Jvm.Cond.instanceMethod ({ cls := "RingDominoModel", name := "matchesAt", desc := "(I)I" } : Jvm.MethodName)) ∈ lw_all := lw_g (lw_at lw_m13 215 rfl) rfl
theorem q3195 : (Jvm.Cond.code ({ cls := "RingDominoModel", name := "matchesAt", desc := "(I)I" } : Jvm.MethodName) prog_45_method_85_code (2 : Nat) (Option.some Jvm.ClassFile.FieldType.int)) ∈ lw_all := lw_g (lw_at lw_m13 216 rfl) rfl
theorem q3197 : (Jvm.Cond.instanceMethod ({ cls := "RingDominoModel", name := "isRing", desc := "(I)Z" } : Jvm.MethodName)) ∈ lw_all := lw_g (lw_at lw_m13 218 rfl) rfl
theorem q3198 : (Jvm.Cond.selects "RingDominoModel" ({ cls := "RingDominoModel", name := "isRing", desc := "(I)Z" } : Jvm.MethodName) ({ cls := "RingDominoModel", name := "isRing", desc := "(I)Z" } : Jvm.MethodName)) ∈ lw_all := lw_g (lw_at lw_m13 219 rfl) rfl
theorem q3199 : (Jvm.Cond.code ({ cls := "RingDominoModel", name := "isRing", desc := "(I)Z" } : Jvm.MethodName) prog_45_method_87_code (2 : Nat) (Option.some Jvm.ClassFile.FieldType.boolean)) ∈ lw_all := lw_g (lw_at lw_m13 220 rfl) rfl
theorem q3201 : (Jvm.Cond.instanceMethod ({ cls := "RingDominoModel", name := "isPlaced", desc := "(I)Z" } : Jvm.MethodName)) ∈ lw_all := lw_g (lw_at lw_m13 222 rfl) rfl
theorem q3202 : (Jvm.Cond.selects "RingDominoModel" ({ cls := "RingDominoModel", name := "isPlaced", desc := "(I)Z" } : Jvm.MethodName) ({ cls := "RingDominoModel", name := "isPlaced", desc := "(I)Z" } : Jvm.MethodName)) ∈ lw_all := lw_g (lw_at lw_m13 223 rfl) rfl
theorem q3203 : (Jvm.Cond.code ({ cls := "RingDominoModel", name := "isPlaced", desc := "(I)Z" } : Jvm.MethodName) prog_45_method_88_code (2 : Nat) (Option.some Jvm.ClassFile.FieldType.boolean)) ∈ lw_all := lw_g (lw_at lw_m13 224 rfl) rfl
theorem q3204 : (Jvm.Cond.methodLink "RingDominoModel" (400 : Nat) ({ cls := "RingDominoModel", name := "isTile", desc := "(I)Z" } : Jvm.MethodName)) ∈ lw_all := lw_g (lw_at lw_m13 225 rfl) rfl
theorem q3205 : (Jvm.Cond.privateMethod ({ cls := "RingDominoModel", name := "isTile", desc := "(I)Z" } : Jvm.MethodName)) ∈ lw_tbl := lw_at lw_m13 226 rfl
theorem q3206 : (Jvm.Cond.instanceMethod ({ cls := "RingDominoModel", name := "isTile", desc := "(I)Z" } : Jvm.MethodName)) ∈ lw_all := lw_g (lw_at lw_m13 227 rfl) rfl
theorem q3207 : (Jvm.Cond.code ({ cls := "RingDominoModel", name := "isTile", desc := "(I)Z" } : Jvm.MethodName) prog_45_method_80_code (2 : Nat) (Option.some Jvm.ClassFile.FieldType.boolean)) ∈ lw_all := lw_g (lw_at lw_m13 228 rfl) rfl
theorem q3209 : (Jvm.Cond.instanceMethod ({ cls := "RingDominoModel", name := "cellOf", desc := "(I)I" } : Jvm.MethodName)) ∈ lw_all := lw_g (lw_at lw_m13 230 rfl) rfl
theorem q3210 : (Jvm.Cond.selects "RingDominoModel" ({ cls := "RingDominoModel", name := "cellOf", desc := "(I)I" } : Jvm.MethodName) ({ cls := "RingDominoModel", name := "cellOf", desc := "(I)I" } : Jvm.MethodName)) ∈ lw_all := lw_g (lw_at lw_m13 231 rfl) rfl
theorem q3211 : (Jvm.Cond.code ({ cls := "RingDominoModel", name := "cellOf", desc := "(I)I" } : Jvm.MethodName) prog_45_method_90_code (2 : Nat) (Option.some Jvm.ClassFile.FieldType.int)) ∈ lw_all := lw_g (lw_at lw_m13 232 rfl) rfl
theorem q3212 : (Jvm.Cond.methodLink "RingDominoModel" (403 : Nat) ({ cls := "RingDominoModel", name := "lies", desc := "(I)Z" } : Jvm.MethodName)) ∈ lw_all := lw_g (lw_at lw_m13 233 rfl) rfl
theorem q3213 : (Jvm.Cond.privateMethod ({ cls := "RingDominoModel", name := "lies", desc := "(I)Z" } : Jvm.MethodName)) ∈ lw_tbl := lw_at lw_m13 234 rfl
theorem q3214 : (Jvm.Cond.instanceMethod ({ cls := "RingDominoModel", name := "lies", desc := "(I)Z" } : Jvm.MethodName)) ∈ lw_all := lw_g (lw_at lw_m13 235 rfl) rfl
theorem q3215 : (Jvm.Cond.code ({ cls := "RingDominoModel", name := "lies", desc := "(I)Z" } : Jvm.MethodName) prog_45_method_89_code (2 : Nat) (Option.some Jvm.ClassFile.FieldType.boolean)) ∈ lw_all := lw_g (lw_at lw_m13 236 rfl) rfl
theorem q3217 : (Jvm.Cond.instanceMethod ({ cls := "RingDominoModel", name := "turnOf", desc := "(I)I" } : Jvm.MethodName)) ∈ lw_all := lw_g (lw_at lw_m13 238 rfl) rfl
theorem q3218 : (Jvm.Cond.selects "RingDominoModel" ({ cls := "RingDominoModel", name := "turnOf", desc := "(I)I" } : Jvm.MethodName) ({ cls := "RingDominoModel", name := "turnOf", desc := "(I)I" } : Jvm.MethodName)) ∈ lw_all := lw_g (lw_at lw_m13 239 rfl) rfl
theorem q3219 : (Jvm.Cond.code ({ cls := "RingDominoModel", name := "turnOf", desc := "(I)I" } : Jvm.MethodName) prog_45_method_91_code (2 : Nat) (Option.some Jvm.ClassFile.FieldType.int)) ∈ lw_all := lw_g (lw_at lw_m14 0 rfl) rfl
theorem q3221 : (Jvm.Cond.instanceMethod ({ cls := "RingDominoModel", name := "fits", desc := "(III)Z" } : Jvm.MethodName)) ∈ lw_all := lw_g (lw_at lw_m14 2 rfl) rfl
theorem q3222 : (Jvm.Cond.selects "RingDominoModel" ({ cls := "RingDominoModel", name := "fits", desc := "(III)Z" } : Jvm.MethodName) ({ cls := "RingDominoModel", name := "fits", desc := "(III)Z" } : Jvm.MethodName)) ∈ lw_all := lw_g (lw_at lw_m14 3 rfl) rfl
theorem q3223 : (Jvm.Cond.code ({ cls := "RingDominoModel", name := "fits", desc := "(III)Z" } : Jvm.MethodName) prog_45_method_93_code (4 : Nat) (Option.some Jvm.ClassFile.FieldType.boolean)) ∈ lw_all := lw_g (lw_at lw_m14 4 rfl) rfl
theorem q3224 : (Jvm.Cond.methodLink "RingDominoModel" (406 : Nat) ({ cls := "RingDominoModel", name := "isAsked", desc := "(III)Z" } : Jvm.MethodName)) ∈ lw_all := lw_g (lw_at lw_m14 5 rfl) rfl
theorem q3225 : (Jvm.Cond.privateMethod ({ cls := "RingDominoModel", name := "isAsked", desc := "(III)Z" } : Jvm.MethodName)) ∈ lw_tbl := lw_at lw_m14 6 rfl
theorem q3226 : (Jvm.Cond.instanceMethod ({ cls := "RingDominoModel", name := "isAsked", desc := "(III)Z" } : Jvm.MethodName)) ∈ lw_all := lw_g (lw_at lw_m14 7 rfl) rfl
theorem q3227 : (Jvm.Cond.code ({ cls := "RingDominoModel", name := "isAsked", desc := "(III)Z" } : Jvm.MethodName) prog_45_method_92_code (5 : Nat) (Option.some Jvm.ClassFile.FieldType.boolean)) ∈ lw_all := lw_g (lw_at lw_m14 8 rfl) rfl
theorem q3228 : (Jvm.Cond.methodLink "RingDominoModel" (310 : Nat) ({ cls := "RingDominoModel", name := "fits", desc := "(LRingDominoModel$State;III)Z" } : Jvm.MethodName)) ∈ lw_all := lw_g (lw_at lw_m14 9 rfl) rfl
theorem q3229 : (Jvm.Cond.privateMethod ({ cls := "RingDominoModel", name := "fits", desc := "(LRingDominoModel$State;III)Z" } : Jvm.MethodName)) ∈ lw_tbl := lw_at lw_m14 10 rfl
theorem q3230 : (Jvm.Cond.instanceMethod ({ cls := "RingDominoModel", name := "fits", desc := "(LRingDominoModel$State;III)Z" } : Jvm.MethodName)) ∈ lw_all := lw_g (lw_at lw_m14 11 rfl) rfl
theorem q3231 : (Jvm.Cond.code ({ cls := "RingDominoModel", name := "fits", desc := "(LRingDominoModel$State;III)Z" } : Jvm.MethodName) prog_45_method_51_code (5 : Nat) (Option.some Jvm.ClassFile.FieldType.boolean)) ∈ lw_all := lw_g (lw_at lw_m14 12 rfl) rfl
theorem q3232 : (Jvm.Cond.methodLink "RingDominoModel" (303 : Nat) ({ cls := "RingDominoModel", name := "against", desc := "(LRingDominoModel$State;III)I" } : Jvm.MethodName)) ∈ lw_all := lw_g (lw_at lw_m14 13 rfl) rfl
theorem q3233 : (Jvm.Cond.privateMethod ({ cls := "RingDominoModel", name := "against", desc := "(LRingDominoModel$State;III)I" } : Jvm.MethodName)) ∈ lw_tbl := lw_at lw_m14 14 rfl
theorem q3234 : (Jvm.Cond.instanceMethod ({ cls := "RingDominoModel", name := "against", desc := "(LRingDominoModel$State;III)I" } : Jvm.MethodName)) ∈ lw_all := lw_g (lw_at lw_m14 15 rfl) rfl
theorem q3235 : (Jvm.Cond.code ({ cls := "RingDominoModel", name := "against", desc := "(LRingDominoModel$State;III)I" } : Jvm.MethodName) prog_45_method_49_code (7 : Nat) (Option.some Jvm.ClassFile.FieldType.int)) ∈ lw_all := lw_g (lw_at lw_m14 16 rfl) rfl
theorem q3237 : (Jvm.Cond.instanceMethod ({ cls := "RingDominoModel", name := "edgeAgainst", desc := "(III)I" } : Jvm.MethodName)) ∈ lw_all := lw_g (lw_at lw_m14 18 rfl) rfl
theorem q3238 : (Jvm.Cond.selects "RingDominoModel" ({ cls := "RingDominoModel", name := "edgeAgainst", desc := "(III)I" } : Jvm.MethodName) ({ cls := "RingDominoModel", name := "edgeAgainst", desc := "(III)I" } : Jvm.MethodName)) ∈ lw_all := lw_g (lw_at lw_m14 19 rfl) rfl
theorem q3239 : (Jvm.Cond.code ({ cls := "RingDominoModel", name := "edgeAgainst", desc := "(III)I" } : Jvm.MethodName) prog_45_method_94_code (4 : Nat) (Option.some Jvm.ClassFile.FieldType.int)) ∈ lw_all := lw_g (lw_at lw_m14 20 rfl) rfl
theorem q3241 : (Jvm.Cond.instanceMethod ({ cls := "RingDominoModel", name := "waysOf", desc := "(I)I" } : Jvm.MethodName)) ∈ lw_all := lw_g (lw_at lw_m14 22 rfl) rfl
theorem q3242 : (Jvm.Cond.selects "RingDominoModel" ({ cls := "RingDominoModel", name := "waysOf", desc := "(I)I" } : Jvm.MethodName) ({ cls := "RingDominoModel", name := "waysOf", desc := "(I)I" } : Jvm.MethodName)) ∈ lw_all := lw_g (lw_at lw_m14 23 rfl) rfl
theorem q3243 : (Jvm.Cond.code ({ cls := "RingDominoModel", name := "waysOf", desc := "(I)I" } : Jvm.MethodName) prog_45_method_95_code (2 : Nat) (Option.some Jvm.ClassFile.FieldType.int)) ∈ lw_all := lw_g (lw_at lw_m14 24 rfl) rfl
theorem q3244 : (Jvm.Cond.methodLink "RingDominoModel" (352 : Nat) ({ cls := "RingDominoModel", name := "ways", desc := "(LRingDominoModel$State;I)I" } : Jvm.MethodName)) ∈ lw_all := lw_g (lw_at lw_m14 25 rfl) rfl
theorem q3245 : (Jvm.Cond.privateMethod ({ cls := "RingDominoModel", name := "ways", desc := "(LRingDominoModel$State;I)I" } : Jvm.MethodName)) ∈ lw_tbl := lw_at lw_m14 26 rfl
theorem q3246 : (Jvm.Cond.instanceMethod ({ cls := "RingDominoModel", name := "ways", desc := "(LRingDominoModel$State;I)I" } : Jvm.MethodName)) ∈ lw_all := lw_g (lw_at lw_m14 27 rfl) rfl
theorem q3247 : (Jvm.Cond.code ({ cls := "RingDominoModel", name := "ways", desc := "(LRingDominoModel$State;I)I" } : Jvm.MethodName) prog_45_method_52_code (6 : Nat) (Option.some Jvm.ClassFile.FieldType.int)) ∈ lw_all := lw_g (lw_at lw_m14 28 rfl) rfl
theorem q3249 : (Jvm.Cond.instanceMethod ({ cls := "RingDominoModel", name := "isLeftover", desc := "(I)Z" } : Jvm.MethodName)) ∈ lw_all := lw_g (lw_at lw_m14 30 rfl) rfl
theorem q3250 : (Jvm.Cond.selects "RingDominoModel" ({ cls := "RingDominoModel", name := "isLeftover", desc := "(I)Z" } : Jvm.MethodName) ({ cls := "RingDominoModel", name := "isLeftover", desc := "(I)Z" } : Jvm.MethodName)) ∈ lw_all := lw_g (lw_at lw_m14 31 rfl) rfl
theorem q3251 : (Jvm.Cond.code ({ cls := "RingDominoModel", name := "isLeftover", desc := "(I)Z" } : Jvm.MethodName) prog_45_method_97_code (2 : Nat) (Option.some Jvm.ClassFile.FieldType.boolean)) ∈ lw_all := lw_g (lw_at lw_m14 32 rfl) rfl
theorem q3252 : (Jvm.Cond.methodLink "RingDominoModel" (409 : Nat) ({ cls := "RingDominoModel", name := "leftover", desc := "(I)Z" } : Jvm.MethodName)) ∈ lw_all := lw_g (lw_at lw_m14 33 rfl) rfl
theorem q3253 : (Jvm.Cond.privateMethod ({ cls := "RingDominoModel", name := "leftover", desc := "(I)Z" } : Jvm.MethodName)) ∈ lw_tbl := lw_at lw_m14 34 rfl
theorem q3254 : (Jvm.Cond.instanceMethod ({ cls := "RingDominoModel", name := "leftover", desc := "(I)Z" } : Jvm.MethodName)) ∈ lw_all := lw_g (lw_at lw_m14 35 rfl) rfl
theorem q3255 : (Jvm.Cond.code ({ cls := "RingDominoModel", name := "leftover", desc := "(I)Z" } : Jvm.MethodName) prog_45_method_96_code (2 : Nat) (Option.some Jvm.ClassFile.FieldType.boolean)) ∈ lw_all := lw_g (lw_at lw_m14 36 rfl) rfl
theorem q3256 : (Jvm.Cond.methodLink "RingDominoModel" (355 : Nat) ({ cls := "RingDominoModel", name := "firstWay", desc := "(LRingDominoModel$State;I)I" } : Jvm.MethodName)) ∈ lw_all := lw_g (lw_at lw_m14 37 rfl) rfl
theorem q3257 : (Jvm.Cond.privateMethod ({ cls := "RingDominoModel", name := "firstWay", desc := "(LRingDominoModel$State;I)I" } : Jvm.MethodName)) ∈ lw_tbl := lw_at lw_m14 38 rfl
theorem q3258 : (Jvm.Cond.instanceMethod ({ cls := "RingDominoModel", name := "firstWay", desc := "(LRingDominoModel$State;I)I" } : Jvm.MethodName)) ∈ lw_all := lw_g (lw_at lw_m14 39 rfl) rfl
theorem q3259 : (Jvm.Cond.code ({ cls := "RingDominoModel", name := "firstWay", desc := "(LRingDominoModel$State;I)I" } : Jvm.MethodName) prog_45_method_53_code (5 : Nat) (Option.some Jvm.ClassFile.FieldType.int)) ∈ lw_all := lw_g (lw_at lw_m14 40 rfl) rfl
theorem q3261 : (Jvm.Cond.instanceMethod ({ cls := "RingDominoModel", name := "looksToProve", desc := "(I)I" } : Jvm.MethodName)) ∈ lw_all := lw_g (lw_at lw_m14 42 rfl) rfl
theorem q3262 : (Jvm.Cond.selects "RingDominoModel" ({ cls := "RingDominoModel", name := "looksToProve", desc := "(I)I" } : Jvm.MethodName) ({ cls := "RingDominoModel", name := "looksToProve", desc := "(I)I" } : Jvm.MethodName)) ∈ lw_all := lw_g (lw_at lw_m14 43 rfl) rfl
theorem q3263 : (Jvm.Cond.code ({ cls := "RingDominoModel", name := "looksToProve", desc := "(I)I" } : Jvm.MethodName) prog_45_method_98_code (4 : Nat) (Option.some Jvm.ClassFile.FieldType.int)) ∈ lw_all := lw_g (lw_at lw_m14 44 rfl) rfl
theorem q3265 : (Jvm.Cond.instanceMethod ({ cls := "RingDominoModel", name := "putTile", desc := "(III)I" } : Jvm.MethodName)) ∈ lw_all := lw_g (lw_at lw_m14 46 rfl) rfl
theorem q3266 : (Jvm.Cond.selects "RingDominoModel" ({ cls := "RingDominoModel", name := "putTile", desc := "(III)I" } : Jvm.MethodName) ({ cls := "RingDominoModel", name := "putTile", desc := "(III)I" } : Jvm.MethodName)) ∈ lw_all := lw_g (lw_at lw_m14 47 rfl) rfl
theorem q3267 : (Jvm.Cond.code ({ cls := "RingDominoModel", name := "putTile", desc := "(III)I" } : Jvm.MethodName) prog_45_method_99_code (5 : Nat) (Option.some Jvm.ClassFile.FieldType.int)) ∈ lw_all := lw_g (lw_at lw_m14 48 rfl) rfl
theorem q3268 : (Jvm.Cond.methodLink "RingDominoModel" (364 : Nat) ({ cls := "RingDominoModel$State", name := "put", desc := "(III)V" } : Jvm.MethodName)) ∈ lw_all := lw_g (lw_at lw_m14 49 rfl) rfl
theorem q3273 : (Jvm.Cond.instanceMethod ({ cls := "RingDominoModel", name := "takeTile", desc := "(I)I" } : Jvm.MethodName)) ∈ lw_all := lw_g (lw_at lw_m14 54 rfl) rfl
theorem q3274 : (Jvm.Cond.selects "RingDominoModel" ({ cls := "RingDominoModel", name := "takeTile", desc := "(I)I" } : Jvm.MethodName) ({ cls := "RingDominoModel", name := "takeTile", desc := "(I)I" } : Jvm.MethodName)) ∈ lw_all := lw_g (lw_at lw_m14 55 rfl) rfl
theorem q3275 : (Jvm.Cond.code ({ cls := "RingDominoModel", name := "takeTile", desc := "(I)I" } : Jvm.MethodName) prog_45_method_100_code (3 : Nat) (Option.some Jvm.ClassFile.FieldType.int)) ∈ lw_all := lw_g (lw_at lw_m14 56 rfl) rfl
theorem q3276 : (Jvm.Cond.methodLink "RingDominoModel" (378 : Nat) ({ cls := "RingDominoModel$State", name := "take", desc := "(I)V" } : Jvm.MethodName)) ∈ lw_all := lw_g (lw_at lw_m14 57 rfl) rfl
theorem q3281 : (Jvm.Cond.instanceMethod ({ cls := "RingDominoModel", name := "fitTile", desc := "(I)I" } : Jvm.MethodName)) ∈ lw_all := lw_g (lw_at lw_m14 62 rfl) rfl
theorem q3282 : (Jvm.Cond.selects "RingDominoModel" ({ cls := "RingDominoModel", name := "fitTile", desc := "(I)I" } : Jvm.MethodName) ({ cls := "RingDominoModel", name := "fitTile", desc := "(I)I" } : Jvm.MethodName)) ∈ lw_all := lw_g (lw_at lw_m14 63 rfl) rfl
theorem q3283 : (Jvm.Cond.code ({ cls := "RingDominoModel", name := "fitTile", desc := "(I)I" } : Jvm.MethodName) prog_45_method_101_code (2 : Nat) (Option.some Jvm.ClassFile.FieldType.int)) ∈ lw_all := lw_g (lw_at lw_m14 64 rfl) rfl
theorem q3284 : (Jvm.Cond.methodLink "RingDominoModel" (371 : Nat) ({ cls := "RingDominoModel", name := "isFitted", desc := "(LRingDominoModel$State;I)Z" } : Jvm.MethodName)) ∈ lw_all := lw_g (lw_at lw_m14 65 rfl) rfl
theorem q3285 : (Jvm.Cond.privateMethod ({ cls := "RingDominoModel", name := "isFitted", desc := "(LRingDominoModel$State;I)Z" } : Jvm.MethodName)) ∈ lw_tbl := lw_at lw_m14 66 rfl
theorem q3286 : (Jvm.Cond.instanceMethod ({ cls := "RingDominoModel", name := "isFitted", desc := "(LRingDominoModel$State;I)Z" } : Jvm.MethodName)) ∈ lw_all := lw_g (lw_at lw_m14 67 rfl) rfl
theorem q3287 : (Jvm.Cond.code ({ cls := "RingDominoModel", name := "isFitted", desc := "(LRingDominoModel$State;I)Z" } : Jvm.MethodName) prog_45_method_65_code (4 : Nat) (Option.some Jvm.ClassFile.FieldType.boolean)) ∈ lw_all := lw_g (lw_at lw_m14 68 rfl) rfl
theorem q3289 : (Jvm.Cond.instanceMethod ({ cls := "RingDominoModel", name := "playRounds", desc := "(I)I" } : Jvm.MethodName)) ∈ lw_all := lw_g (lw_at lw_m14 70 rfl) rfl
theorem q3290 : (Jvm.Cond.selects "RingDominoModel" ({ cls := "RingDominoModel", name := "playRounds", desc := "(I)I" } : Jvm.MethodName) ({ cls := "RingDominoModel", name := "playRounds", desc := "(I)I" } : Jvm.MethodName)) ∈ lw_all := lw_g (lw_at lw_m14 71 rfl) rfl
theorem q3291 : (Jvm.Cond.code ({ cls := "RingDominoModel", name := "playRounds", desc := "(I)I" } : Jvm.MethodName) prog_45_method_102_code (4 : Nat) (Option.some Jvm.ClassFile.FieldType.int)) ∈ lw_all := lw_g (lw_at lw_m14 72 rfl) rfl
theorem q3292 : (Jvm.Cond.methodLink "RingDominoModel" (412 : Nat) ({ cls := "RingDominoModel", name := "play", desc := "(LRingDominoModel$State;)I" } : Jvm.MethodName)) ∈ lw_all := lw_g (lw_at lw_m14 73 rfl) rfl
theorem q3293 : (Jvm.Cond.privateMethod ({ cls := "RingDominoModel", name := "play", desc := "(LRingDominoModel$State;)I" } : Jvm.MethodName)) ∈ lw_tbl := lw_at lw_m14 74 rfl
theorem q3294 : (Jvm.Cond.instanceMethod ({ cls := "RingDominoModel", name := "play", desc := "(LRingDominoModel$State;)I" } : Jvm.MethodName)) ∈ lw_all := lw_g (lw_at lw_m14 75 rfl) rfl
theorem q3295 : (Jvm.Cond.code ({ cls := "RingDominoModel", name := "play", desc := "(LRingDominoModel$State;)I" } : Jvm.MethodName) prog_45_method_67_code (4 : Nat) (Option.some Jvm.ClassFile.FieldType.int)) ∈ lw_all := lw_g (lw_at lw_m14 76 rfl) rfl
theorem q3296 : (Jvm.Cond.methodLink "RingDominoModel" (379 : Nat) ({ cls := "RingDominoModel", name := "carryOut", desc := "(LRingDominoModel$State;I)Z" } : Jvm.MethodName)) ∈ lw_all := lw_g (lw_at lw_m14 77 rfl) rfl
theorem q3297 : (Jvm.Cond.privateMethod ({ cls := "RingDominoModel", name := "carryOut", desc := "(LRingDominoModel$State;I)Z" } : Jvm.MethodName)) ∈ lw_tbl := lw_at lw_m14 78 rfl
theorem q3298 : (Jvm.Cond.instanceMethod ({ cls := "RingDominoModel", name := "carryOut", desc := "(LRingDominoModel$State;I)Z" } : Jvm.MethodName)) ∈ lw_all := lw_g (lw_at lw_m14 79 rfl) rfl
theorem q3299 : (Jvm.Cond.code ({ cls := "RingDominoModel", name := "carryOut", desc := "(LRingDominoModel$State;I)Z" } : Jvm.MethodName) prog_45_method_66_code (4 : Nat) (Option.some Jvm.ClassFile.FieldType.boolean)) ∈ lw_all := lw_g (lw_at lw_m14 80 rfl) rfl
theorem q3300 : (Jvm.Cond.methodLink "RingDominoModel" (368 : Nat) ({ cls := "RingDominoModel", name := "reckon", desc := "(LRingDominoModel$State;III)I" } : Jvm.MethodName)) ∈ lw_all := lw_g (lw_at lw_m14 81 rfl) rfl
theorem q3301 : (Jvm.Cond.privateMethod ({ cls := "RingDominoModel", name := "reckon", desc := "(LRingDominoModel$State;III)I" } : Jvm.MethodName)) ∈ lw_tbl := lw_at lw_m14 82 rfl
theorem q3302 : (Jvm.Cond.instanceMethod ({ cls := "RingDominoModel", name := "reckon", desc := "(LRingDominoModel$State;III)I" } : Jvm.MethodName)) ∈ lw_all := lw_g (lw_at lw_m14 83 rfl) rfl
theorem q3303 : (Jvm.Cond.code ({ cls := "RingDominoModel", name := "reckon", desc := "(LRingDominoModel$State;III)I" } : Jvm.MethodName) prog_45_method_62_code (5 : Nat) (Option.some Jvm.ClassFile.FieldType.int)) ∈ lw_all := lw_g (lw_at lw_m14 84 rfl) rfl
theorem q3304 : (Jvm.Cond.methodLink "RingDominoModel" (358 : Nat) ({ cls := "RingDominoModel", name := "joined", desc := "(III)I" } : Jvm.MethodName)) ∈ lw_all := lw_g (lw_at lw_m14 85 rfl) rfl
theorem q3305 : (Jvm.Cond.static ({ cls := "RingDominoModel", name := "joined", desc := "(III)I" } : Jvm.MethodName)) ∈ lw_all := lw_g (lw_at lw_m14 86 rfl) rfl
theorem q3306 : (Jvm.Cond.code ({ cls := "RingDominoModel", name := "joined", desc := "(III)I" } : Jvm.MethodName) prog_45_method_63_code (3 : Nat) (Option.some Jvm.ClassFile.FieldType.int)) ∈ lw_all := lw_g (lw_at lw_m14 87 rfl) rfl
theorem q3307 : (Jvm.Cond.methodLink "RingDominoModel" (374 : Nat) ({ cls := "RingDominoModel", name := "isPut", desc := "(LRingDominoModel$State;IIII)Z" } : Jvm.MethodName)) ∈ lw_all := lw_g (lw_at lw_m14 88 rfl) rfl
theorem q3308 : (Jvm.Cond.privateMethod ({ cls := "RingDominoModel", name := "isPut", desc := "(LRingDominoModel$State;IIII)Z" } : Jvm.MethodName)) ∈ lw_tbl := lw_at lw_m14 89 rfl
theorem q3309 : (Jvm.Cond.instanceMethod ({ cls := "RingDominoModel", name := "isPut", desc := "(LRingDominoModel$State;IIII)Z" } : Jvm.MethodName)) ∈ lw_all := lw_g (lw_at lw_m14 90 rfl) rfl
theorem q3310 : (Jvm.Cond.code ({ cls := "RingDominoModel", name := "isPut", desc := "(LRingDominoModel$State;IIII)Z" } : Jvm.MethodName) prog_45_method_64_code (8 : Nat) (Option.some Jvm.ClassFile.FieldType.boolean)) ∈ lw_all := lw_g (lw_at lw_m14 91 rfl) rfl
theorem q3311 : (Jvm.Cond.methodLink "RingDominoModel" (361 : Nat) ({ cls := "java/lang/Math", name := "floorMod", desc := "(II)I" } : Jvm.MethodName)) ∈ lw_all := lw_g (lw_at lw_m14 92 rfl) rfl
theorem q3315 : (Jvm.Cond.instanceMethod ({ cls := "RingDominoModel", name := "pointsAfter", desc := "(I)I" } : Jvm.MethodName)) ∈ lw_all := lw_g (lw_at lw_m14 96 rfl) rfl
theorem q3316 : (Jvm.Cond.selects "RingDominoModel" ({ cls := "RingDominoModel", name := "pointsAfter", desc := "(I)I" } : Jvm.MethodName) ({ cls := "RingDominoModel", name := "pointsAfter", desc := "(I)I" } : Jvm.MethodName)) ∈ lw_all := lw_g (lw_at lw_m14 97 rfl) rfl
theorem q3317 : (Jvm.Cond.code ({ cls := "RingDominoModel", name := "pointsAfter", desc := "(I)I" } : Jvm.MethodName) prog_45_method_103_code (3 : Nat) (Option.some Jvm.ClassFile.FieldType.int)) ∈ lw_all := lw_g (lw_at lw_m14 98 rfl) rfl
theorem q3318 : (Jvm.Cond.methodLink "RingDominoModel" (415 : Nat) ({ cls := "RingDominoModel$State", name := "become", desc := "(LRingDominoModel$State;)V" } : Jvm.MethodName)) ∈ lw_all := lw_g (lw_at lw_m14 99 rfl) rfl
theorem q3324 : (Jvm.Cond.instanceMethod ({ cls := "RingDominoModel", name := "roundsUntilRing", desc := "()I" } : Jvm.MethodName)) ∈ lw_all := lw_g (lw_at lw_m14 105 rfl) rfl
theorem q3325 : (Jvm.Cond.selects "RingDominoModel" ({ cls := "RingDominoModel", name := "roundsUntilRing", desc := "()I" } : Jvm.MethodName) ({ cls := "RingDominoModel", name := "roundsUntilRing", desc := "()I" } : Jvm.MethodName)) ∈ lw_all := lw_g (lw_at lw_m14 106 rfl) rfl
theorem q3326 : (Jvm.Cond.code ({ cls := "RingDominoModel", name := "roundsUntilRing", desc := "()I" } : Jvm.MethodName) prog_45_method_104_code (2 : Nat) (Option.some Jvm.ClassFile.FieldType.int)) ∈ lw_all := lw_g (lw_at lw_m14 107 rfl) rfl
theorem q3328 : (Jvm.Cond.instanceMethod ({ cls := "RingDominoModel", name := "bestCell", desc := "(I)I" } : Jvm.MethodName)) ∈ lw_all := lw_g (lw_at lw_m14 109 rfl) rfl
theorem q3329 : (Jvm.Cond.selects "RingDominoModel" ({ cls := "RingDominoModel", name := "bestCell", desc := "(I)I" } : Jvm.MethodName) ({ cls := "RingDominoModel", name := "bestCell", desc := "(I)I" } : Jvm.MethodName)) ∈ lw_all := lw_g (lw_at lw_m14 110 rfl) rfl
theorem q3330 : (Jvm.Cond.code ({ cls := "RingDominoModel", name := "bestCell", desc := "(I)I" } : Jvm.MethodName) prog_45_method_105_code (2 : Nat) (Option.some Jvm.ClassFile.FieldType.int)) ∈ lw_all := lw_g (lw_at lw_m14 111 rfl) rfl
theorem q3331 : (Jvm.Cond.methodLink "RingDominoModel" (418 : Nat) ({ cls := "RingDominoModel", name := "hasBest", desc := "(LRingDominoModel$State;I)Z" } : Jvm.MethodName)) ∈ lw_all := lw_g (lw_at lw_m14 112 rfl) rfl
theorem q3332 : (Jvm.Cond.privateMethod ({ cls := "RingDominoModel", name := "hasBest", desc := "(LRingDominoModel$State;I)Z" } : Jvm.MethodName)) ∈ lw_tbl := lw_at lw_m14 113 rfl
theorem q3333 : (Jvm.Cond.instanceMethod ({ cls := "RingDominoModel", name := "hasBest", desc := "(LRingDominoModel$State;I)Z" } : Jvm.MethodName)) ∈ lw_all := lw_g (lw_at lw_m14 114 rfl) rfl
theorem q3334 : (Jvm.Cond.code ({ cls := "RingDominoModel", name := "hasBest", desc := "(LRingDominoModel$State;I)Z" } : Jvm.MethodName) prog_45_method_61_code (6 : Nat) (Option.some Jvm.ClassFile.FieldType.boolean)) ∈ lw_all := lw_g (lw_at lw_m14 115 rfl) rfl
theorem q3335 : (Jvm.Cond.methodLink "RingDominoModel" (334 : Nat) ({ cls := "RingDominoModel", name := "gain", desc := "(LRingDominoModel$State;III)I" } : Jvm.MethodName)) ∈ lw_all := lw_g (lw_at lw_m14 116 rfl) rfl
theorem q3336 : (Jvm.Cond.privateMethod ({ cls := "RingDominoModel", name := "gain", desc := "(LRingDominoModel$State;III)I" } : Jvm.MethodName)) ∈ lw_tbl := lw_at lw_m14 117 rfl
theorem q3337 : (Jvm.Cond.instanceMethod ({ cls := "RingDominoModel", name := "gain", desc := "(LRingDominoModel$State;III)I" } : Jvm.MethodName)) ∈ lw_all := lw_g (lw_at lw_m14 118 rfl) rfl
theorem q3338 : (Jvm.Cond.code ({ cls := "RingDominoModel", name := "gain", desc := "(LRingDominoModel$State;III)I" } : Jvm.MethodName) prog_45_method_59_code (8 : Nat) (Option.some Jvm.ClassFile.FieldType.int)) ∈ lw_all := lw_g (lw_at lw_m14 119 rfl) rfl
theorem q3339 : (Jvm.Cond.methodLink "RingDominoModel" (328 : Nat) ({ cls := "RingDominoModel", name := "isInside", desc := "(I)Z" } : Jvm.MethodName)) ∈ lw_all := lw_g (lw_at lw_m14 120 rfl) rfl
theorem q3340 : (Jvm.Cond.privateMethod ({ cls := "RingDominoModel", name := "isInside", desc := "(I)Z" } : Jvm.MethodName)) ∈ lw_tbl := lw_at lw_m14 121 rfl
theorem q3341 : (Jvm.Cond.instanceMethod ({ cls := "RingDominoModel", name := "isInside", desc := "(I)Z" } : Jvm.MethodName)) ∈ lw_all := lw_g (lw_at lw_m14 122 rfl) rfl
theorem q3342 : (Jvm.Cond.code ({ cls := "RingDominoModel", name := "isInside", desc := "(I)Z" } : Jvm.MethodName) prog_45_method_60_code (3 : Nat) (Option.some Jvm.ClassFile.FieldType.boolean)) ∈ lw_all := lw_g (lw_at lw_m14 123 rfl) rfl
theorem q3344 : (Jvm.Cond.instanceMethod ({ cls := "RingDominoModel", name := "bestTurn", desc := "(I)I" } : Jvm.MethodName)) ∈ lw_all := lw_g (lw_at lw_m14 125 rfl) rfl
theorem q3345 : (Jvm.Cond.selects "RingDominoModel" ({ cls := "RingDominoModel", name := "bestTurn", desc := "(I)I" } : Jvm.MethodName) ({ cls := "RingDominoModel", name := "bestTurn", desc := "(I)I" } : Jvm.MethodName)) ∈ lw_all := lw_g (lw_at lw_m14 126 rfl) rfl
theorem q3346 : (Jvm.Cond.code ({ cls := "RingDominoModel", name := "bestTurn", desc := "(I)I" } : Jvm.MethodName) prog_45_method_106_code (2 : Nat) (Option.some Jvm.ClassFile.FieldType.int)) ∈ lw_all := lw_g (lw_at lw_m14 127 rfl) rfl
theorem q3348 : (Jvm.Cond.instanceMethod ({ cls := "RingDominoModel", name := "bestTile", desc := "()I" } : Jvm.MethodName)) ∈ lw_all := lw_g (lw_at lw_m14 129 rfl) rfl
theorem q3349 : (Jvm.Cond.selects "RingDominoModel" ({ cls := "RingDominoModel", name := "bestTile", desc := "()I" } : Jvm.MethodName) ({ cls := "RingDominoModel", name := "bestTile", desc := "()I" } : Jvm.MethodName)) ∈ lw_all := lw_g (lw_at lw_m14 130 rfl) rfl
theorem q3350 : (Jvm.Cond.code ({ cls := "RingDominoModel", name := "bestTile", desc := "()I" } : Jvm.MethodName) prog_45_method_108_code (1 : Nat) (Option.some Jvm.ClassFile.FieldType.int)) ∈ lw_all := lw_g (lw_at lw_m14 131 rfl) rfl
theorem q3351 : (Jvm.Cond.methodLink "RingDominoModel" (421 : Nat) ({ cls := "RingDominoModel", name := "best", desc := "()I" } : Jvm.MethodName)) ∈ lw_all := lw_g (lw_at lw_m14 132 rfl) rfl
theorem q3352 : (Jvm.Cond.privateMethod ({ cls := "RingDominoModel", name := "best", desc := "()I" } : Jvm.MethodName)) ∈ lw_tbl := lw_at lw_m14 133 rfl
theorem q3353 : (Jvm.Cond.instanceMethod ({ cls := "RingDominoModel", name := "best", desc := "()I" } : Jvm.MethodName)) ∈ lw_all := lw_g (lw_at lw_m14 134 rfl) rfl
theorem q3354 : (Jvm.Cond.code ({ cls := "RingDominoModel", name := "best", desc := "()I" } : Jvm.MethodName) prog_45_method_107_code (4 : Nat) (Option.some Jvm.ClassFile.FieldType.int)) ∈ lw_all := lw_g (lw_at lw_m14 135 rfl) rfl
theorem q3356 : (Jvm.Cond.instanceMethod ({ cls := "RingDominoModel", name := "meanMatch", desc := "()D" } : Jvm.MethodName)) ∈ lw_all := lw_g (lw_at lw_m14 137 rfl) rfl
theorem q3357 : (Jvm.Cond.selects "RingDominoModel" ({ cls := "RingDominoModel", name := "meanMatch", desc := "()D" } : Jvm.MethodName) ({ cls := "RingDominoModel", name := "meanMatch", desc := "()D" } : Jvm.MethodName)) ∈ lw_all := lw_g (lw_at lw_m14 138 rfl) rfl
theorem q3358 : (Jvm.Cond.code ({ cls := "RingDominoModel", name := "meanMatch", desc := "()D" } : Jvm.MethodName) prog_45_method_109_code (1 : Nat) (Option.some Jvm.ClassFile.FieldType.double)) ∈ lw_all := lw_g (lw_at lw_m14 139 rfl) rfl
theorem q3360 : (Jvm.Cond.instanceMethod ({ cls := "RingDominoModel", name := "digest", desc := "()J" } : Jvm.MethodName)) ∈ lw_all := lw_g (lw_at lw_m14 141 rfl) rfl
theorem q3361 : (Jvm.Cond.selects "RingDominoModel" ({ cls := "RingDominoModel", name := "digest", desc := "()J" } : Jvm.MethodName) ({ cls := "RingDominoModel", name := "digest", desc := "()J" } : Jvm.MethodName)) ∈ lw_all := lw_g (lw_at lw_m14 142 rfl) rfl
theorem q3362 : (Jvm.Cond.code ({ cls := "RingDominoModel", name := "digest", desc := "()J" } : Jvm.MethodName) prog_45_method_110_code (8 : Nat) (Option.some Jvm.ClassFile.FieldType.long)) ∈ lw_all := lw_g (lw_at lw_m14 143 rfl) rfl
theorem q3363 : (Jvm.Cond.constantLong "RingDominoModel" (424 : Nat) (1009 : Int64)) ∈ lw_all := lw_g (lw_at lw_m14 144 rfl) rfl
theorem q3364 : (Jvm.Cond.constantLong "RingDominoModel" (426 : Nat) (31 : Int64)) ∈ lw_all := lw_g (lw_at lw_m14 145 rfl) rfl
theorem q3406 : (Jvm.Cond.castable "RingDominoModel" "java/lang/Object") ∈ lw_tbl := lw_at lw_m14 187 rfl
theorem q3520 : (Jvm.Cond.stringRef "RingDominoModel" (428 : Nat) "board") ∈ lw_tbl := lw_at lw_m15 61 rfl
theorem q3521 : (Jvm.Cond.stringRef "RingDominoModel" (430 : Nat) "by") ∈ lw_tbl := lw_at lw_m15 62 rfl
theorem q3522 : (Jvm.Cond.stringRef "RingDominoModel" (432 : Nat) "tile") ∈ lw_tbl := lw_at lw_m15 63 rfl
theorem q3523 : (Jvm.Cond.stringRef "RingDominoModel" (433 : Nat) "put") ∈ lw_tbl := lw_at lw_m15 64 rfl
theorem q3524 : (Jvm.Cond.stringRef "RingDominoModel" (434 : Nat) "at") ∈ lw_tbl := lw_at lw_m15 65 rfl
theorem q3525 : (Jvm.Cond.stringRef "RingDominoModel" (435 : Nat) "turned") ∈ lw_tbl := lw_at lw_m15 66 rfl
theorem q3526 : (Jvm.Cond.stringRef "RingDominoModel" (437 : Nat) "take") ∈ lw_tbl := lw_at lw_m15 67 rfl
theorem q3527 : (Jvm.Cond.stringRef "RingDominoModel" (438 : Nat) "fit") ∈ lw_tbl := lw_at lw_m15 68 rfl
theorem q3528 : (Jvm.Cond.stringRef "RingDominoModel" (440 : Nat) "when") ∈ lw_tbl := lw_at lw_m15 69 rfl
theorem q3529 : (Jvm.Cond.stringRef "RingDominoModel" (442 : Nat) "round") ∈ lw_tbl := lw_at lw_m15 70 rfl
theorem q3530 : (Jvm.Cond.stringRef "RingDominoModel" (444 : Nat) "placed") ∈ lw_tbl := lw_at lw_m15 71 rfl
theorem q3531 : (Jvm.Cond.stringRef "RingDominoModel" (445 : Nat) "matches") ∈ lw_tbl := lw_at lw_m15 72 rfl
theorem q3532 : (Jvm.Cond.stringRef "RingDominoModel" (446 : Nat) "points") ∈ lw_tbl := lw_at lw_m15 73 rfl
theorem q3533 : (Jvm.Cond.stringRef "RingDominoModel" (447 : Nat) "rings") ∈ lw_tbl := lw_at lw_m15 74 rfl
theorem q3534 : (Jvm.Cond.stringRef "RingDominoModel" (448 : Nat) "free") ∈ lw_tbl := lw_at lw_m15 75 rfl
theorem q3535 : (Jvm.Cond.stringRef "RingDominoModel" (450 : Nat) "ways") ∈ lw_tbl := lw_at lw_m15 76 rfl
theorem q3536 : (Jvm.Cond.stringRef "RingDominoModel" (451 : Nat) "of") ∈ lw_tbl := lw_at lw_m15 77 rfl
theorem q3537 : (Jvm.Cond.stringRef "RingDominoModel" (453 : Nat) "on") ∈ lw_tbl := lw_at lw_m15 78 rfl
theorem q3538 : (Jvm.Cond.stringRef "RingDominoModel" (455 : Nat) "fits") ∈ lw_tbl := lw_at lw_m15 79 rfl
theorem q3539 : (Jvm.Cond.stringRef "RingDominoModel" (456 : Nat) "not") ∈ lw_tbl := lw_at lw_m15 80 rfl
theorem q3540 : (Jvm.Cond.stringRef "RingDominoModel" (458 : Nat) "and") ∈ lw_tbl := lw_at lw_m15 81 rfl
theorem q3541 : (Jvm.Cond.stringRef "RingDominoModel" (460 : Nat) "or") ∈ lw_tbl := lw_at lw_m15 82 rfl
theorem q3542 : (Jvm.Cond.stringRef "RingDominoModel" (462 : Nat) "min") ∈ lw_tbl := lw_at lw_m15 83 rfl
theorem q3543 : (Jvm.Cond.stringRef "RingDominoModel" (463 : Nat) "max") ∈ lw_tbl := lw_at lw_m15 84 rfl
theorem in_X4 : ∀ w ∈ wsX40, w ∈ lw_all := lw_in wsX40 [2846, 2848, 2850, 2852, 2854, 2856, 2858, 2860, 2862, 2864, 2866, 2868, 2870, 2872, 2874, 2876, 2878, 2880, 2882, 2884, 2886, 2888, 2890, 2892] (by decide +kernel) (by decide +kernel)

