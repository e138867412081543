set_option maxRecDepth 100000
/-! jdk/internal/misc/Unsafe -/
def RJ24 : String := "jdk/internal/misc/Unsafe"
abbrev cJ24_getLongUnaligned : ByteArray := prog_97_method_334_code
def yJ24_getLongUnaligned : MethodName := ⟨RJ24, "getLongUnaligned", "(Ljava/lang/Object;J)J"⟩
def dkwJ24_getLongUnaligned_7 : List UInt8 := [182, 0, 39, 184, 2, 197, 173]
abbrev dktJ24_getLongUnaligned_7 : List UInt8 := dkwJ24_getLongUnaligned_7 ++ []
def dkwJ24_getLongUnaligned_6 : List UInt8 := [20, 2, 195, 97, 182, 0, 39, 42, 43, 32, 20, 2, 190, 97, 182, 0, 39, 42, 43, 32, 20, 2, 184, 97]
abbrev dktJ24_getLongUnaligned_6 : List UInt8 := dkwJ24_getLongUnaligned_6 ++ dktJ24_getLongUnaligned_7
def dkwJ24_getLongUnaligned_5 : List UInt8 := [43, 32, 20, 1, 93, 97, 182, 0, 39, 42, 43, 32, 20, 0, 205, 97, 182, 0, 39, 42, 43, 32]
abbrev dktJ24_getLongUnaligned_5 : List UInt8 := dkwJ24_getLongUnaligned_5 ++ dktJ24_getLongUnaligned_6
def dkwJ24_getLongUnaligned_4 : List UInt8 := [43, 32, 182, 0, 39, 42, 43, 32, 10, 97, 182, 0, 39, 42, 43, 32, 20, 0, 203, 97, 182, 0, 39, 42]
abbrev dktJ24_getLongUnaligned_4 : List UInt8 := dkwJ24_getLongUnaligned_4 ++ dktJ24_getLongUnaligned_5
def dkwJ24_getLongUnaligned_3 : List UInt8 := [43, 32, 20, 0, 205, 97, 182, 0, 47, 42, 43, 32, 20, 2, 190, 97, 182, 0, 47, 184, 2, 192, 173, 42]
abbrev dktJ24_getLongUnaligned_3 : List UInt8 := dkwJ24_getLongUnaligned_3 ++ dktJ24_getLongUnaligned_4
def dkwJ24_getLongUnaligned_2 : List UInt8 := [10, 127, 9, 148, 154, 0, 43, 42, 43, 32, 182, 0, 47, 42, 43, 32, 20, 0, 203, 97, 182, 0, 47, 42]
abbrev dktJ24_getLongUnaligned_2 : List UInt8 := dkwJ24_getLongUnaligned_2 ++ dktJ24_getLongUnaligned_3
def dkwJ24_getLongUnaligned_1 : List UInt8 := [154, 0, 23, 42, 43, 32, 182, 0, 17, 42, 43, 32, 20, 0, 205, 97, 182, 0, 17, 184, 2, 186, 173, 32]
abbrev dktJ24_getLongUnaligned_1 : List UInt8 := dkwJ24_getLongUnaligned_1 ++ dktJ24_getLongUnaligned_2
def dkwJ24_getLongUnaligned_0 : List UInt8 := [32, 20, 2, 184, 127, 9, 148, 154, 0, 10, 42, 43, 32, 182, 0, 27, 173, 32, 20, 1, 93, 127, 9, 148]
abbrev dktJ24_getLongUnaligned_0 : List UInt8 := dkwJ24_getLongUnaligned_0 ++ dktJ24_getLongUnaligned_1
theorem dksJ24_getLongUnaligned_0 : cJ24_getLongUnaligned.data.toList.drop 0 = dktJ24_getLongUnaligned_0 := by decide +kernel
theorem dksJ24_getLongUnaligned_1 : cJ24_getLongUnaligned.data.toList.drop 24 = dktJ24_getLongUnaligned_1 := dk_seg dksJ24_getLongUnaligned_0 24 rfl rfl
theorem dksJ24_getLongUnaligned_2 : cJ24_getLongUnaligned.data.toList.drop 48 = dktJ24_getLongUnaligned_2 := dk_seg dksJ24_getLongUnaligned_1 24 rfl rfl
theorem dksJ24_getLongUnaligned_3 : cJ24_getLongUnaligned.data.toList.drop 72 = dktJ24_getLongUnaligned_3 := dk_seg dksJ24_getLongUnaligned_2 24 rfl rfl
theorem dksJ24_getLongUnaligned_4 : cJ24_getLongUnaligned.data.toList.drop 96 = dktJ24_getLongUnaligned_4 := dk_seg dksJ24_getLongUnaligned_3 24 rfl rfl
theorem dksJ24_getLongUnaligned_5 : cJ24_getLongUnaligned.data.toList.drop 120 = dktJ24_getLongUnaligned_5 := dk_seg dksJ24_getLongUnaligned_4 24 rfl rfl
theorem dksJ24_getLongUnaligned_6 : cJ24_getLongUnaligned.data.toList.drop 142 = dktJ24_getLongUnaligned_6 := dk_seg dksJ24_getLongUnaligned_5 22 rfl rfl
theorem dksJ24_getLongUnaligned_7 : cJ24_getLongUnaligned.data.toList.drop 166 = dktJ24_getLongUnaligned_7 := dk_seg dksJ24_getLongUnaligned_6 24 rfl rfl
theorem dJ24_getLongUnaligned_0 : decode cJ24_getLongUnaligned 0 = .ok (.lload_n 2, 1) := dk_32 (dk_at dksJ24_getLongUnaligned_0 0 rfl rfl)
theorem dJ24_getLongUnaligned_1 : decode cJ24_getLongUnaligned 1 = .ok (.ldc2_w 696, 3) := dk_20 2 184 (dk_at dksJ24_getLongUnaligned_0 1 rfl rfl)
theorem dJ24_getLongUnaligned_4 : decode cJ24_getLongUnaligned 4 = .ok (.land, 1) := dk_127 (dk_at dksJ24_getLongUnaligned_0 4 rfl rfl)
theorem dJ24_getLongUnaligned_5 : decode cJ24_getLongUnaligned 5 = .ok (.lconst 0, 1) := dk_9 (dk_at dksJ24_getLongUnaligned_0 5 rfl rfl)
theorem dJ24_getLongUnaligned_6 : decode cJ24_getLongUnaligned 6 = .ok (.lcmp, 1) := dk_148 (dk_at dksJ24_getLongUnaligned_0 6 rfl rfl)
theorem dJ24_getLongUnaligned_7 : decode cJ24_getLongUnaligned 7 = .ok (.ifCond .ne 10, 3) := dk_154 0 10 (dk_at dksJ24_getLongUnaligned_0 7 rfl rfl)
theorem dJ24_getLongUnaligned_10 : decode cJ24_getLongUnaligned 10 = .ok (.aload_n 0, 1) := dk_42 (dk_at dksJ24_getLongUnaligned_0 10 rfl rfl)
theorem dJ24_getLongUnaligned_11 : decode cJ24_getLongUnaligned 11 = .ok (.aload_n 1, 1) := dk_43 (dk_at dksJ24_getLongUnaligned_0 11 rfl rfl)
theorem dJ24_getLongUnaligned_12 : decode cJ24_getLongUnaligned 12 = .ok (.lload_n 2, 1) := dk_32 (dk_at dksJ24_getLongUnaligned_0 12 rfl rfl)
theorem dJ24_getLongUnaligned_13 : decode cJ24_getLongUnaligned 13 = .ok (.invokevirtual 27, 3) := dk_182 0 27 (dk_at dksJ24_getLongUnaligned_0 13 rfl rfl)
theorem dJ24_getLongUnaligned_16 : decode cJ24_getLongUnaligned 16 = .ok (.lreturn, 1) := dk_173 (dk_at dksJ24_getLongUnaligned_0 16 rfl rfl)
theorem dJ24_getLongUnaligned_17 : decode cJ24_getLongUnaligned 17 = .ok (.lload_n 2, 1) := dk_32 (dk_at dksJ24_getLongUnaligned_0 17 rfl rfl)
theorem dJ24_getLongUnaligned_18 : decode cJ24_getLongUnaligned 18 = .ok (.ldc2_w 349, 3) := dk_20 1 93 (dk_at dksJ24_getLongUnaligned_0 18 rfl rfl)
theorem dJ24_getLongUnaligned_21 : decode cJ24_getLongUnaligned 21 = .ok (.land, 1) := dk_127 (dk_at dksJ24_getLongUnaligned_0 21 rfl rfl)
theorem dJ24_getLongUnaligned_22 : decode cJ24_getLongUnaligned 22 = .ok (.lconst 0, 1) := dk_9 (dk_at dksJ24_getLongUnaligned_0 22 rfl rfl)
theorem dJ24_getLongUnaligned_23 : decode cJ24_getLongUnaligned 23 = .ok (.lcmp, 1) := dk_148 (dk_at dksJ24_getLongUnaligned_0 23 rfl rfl)
theorem dJ24_getLongUnaligned_24 : decode cJ24_getLongUnaligned 24 = .ok (.ifCond .ne 23, 3) := dk_154 0 23 (dk_at dksJ24_getLongUnaligned_1 0 rfl rfl)
theorem dJ24_getLongUnaligned_27 : decode cJ24_getLongUnaligned 27 = .ok (.aload_n 0, 1) := dk_42 (dk_at dksJ24_getLongUnaligned_1 3 rfl rfl)
theorem dJ24_getLongUnaligned_28 : decode cJ24_getLongUnaligned 28 = .ok (.aload_n 1, 1) := dk_43 (dk_at dksJ24_getLongUnaligned_1 4 rfl rfl)
theorem dJ24_getLongUnaligned_29 : decode cJ24_getLongUnaligned 29 = .ok (.lload_n 2, 1) := dk_32 (dk_at dksJ24_getLongUnaligned_1 5 rfl rfl)
theorem dJ24_getLongUnaligned_30 : decode cJ24_getLongUnaligned 30 = .ok (.invokevirtual 17, 3) := dk_182 0 17 (dk_at dksJ24_getLongUnaligned_1 6 rfl rfl)
theorem dJ24_getLongUnaligned_33 : decode cJ24_getLongUnaligned 33 = .ok (.aload_n 0, 1) := dk_42 (dk_at dksJ24_getLongUnaligned_1 9 rfl rfl)
theorem dJ24_getLongUnaligned_34 : decode cJ24_getLongUnaligned 34 = .ok (.aload_n 1, 1) := dk_43 (dk_at dksJ24_getLongUnaligned_1 10 rfl rfl)
theorem dJ24_getLongUnaligned_35 : decode cJ24_getLongUnaligned 35 = .ok (.lload_n 2, 1) := dk_32 (dk_at dksJ24_getLongUnaligned_1 11 rfl rfl)
theorem dJ24_getLongUnaligned_36 : decode cJ24_getLongUnaligned 36 = .ok (.ldc2_w 205, 3) := dk_20 0 205 (dk_at dksJ24_getLongUnaligned_1 12 rfl rfl)
theorem dJ24_getLongUnaligned_39 : decode cJ24_getLongUnaligned 39 = .ok (.ladd, 1) := dk_97 (dk_at dksJ24_getLongUnaligned_1 15 rfl rfl)
theorem dJ24_getLongUnaligned_40 : decode cJ24_getLongUnaligned 40 = .ok (.invokevirtual 17, 3) := dk_182 0 17 (dk_at dksJ24_getLongUnaligned_1 16 rfl rfl)
theorem dJ24_getLongUnaligned_43 : decode cJ24_getLongUnaligned 43 = .ok (.invokestatic 698, 3) := dk_184 2 186 (dk_at dksJ24_getLongUnaligned_1 19 rfl rfl)
theorem dJ24_getLongUnaligned_46 : decode cJ24_getLongUnaligned 46 = .ok (.lreturn, 1) := dk_173 (dk_at dksJ24_getLongUnaligned_1 22 rfl rfl)
theorem dJ24_getLongUnaligned_47 : decode cJ24_getLongUnaligned 47 = .ok (.lload_n 2, 1) := dk_32 (dk_at dksJ24_getLongUnaligned_1 23 rfl rfl)
theorem dJ24_getLongUnaligned_48 : decode cJ24_getLongUnaligned 48 = .ok (.lconst 1, 1) := dk_10 (dk_at dksJ24_getLongUnaligned_2 0 rfl rfl)
theorem dJ24_getLongUnaligned_49 : decode cJ24_getLongUnaligned 49 = .ok (.land, 1) := dk_127 (dk_at dksJ24_getLongUnaligned_2 1 rfl rfl)
theorem dJ24_getLongUnaligned_50 : decode cJ24_getLongUnaligned 50 = .ok (.lconst 0, 1) := dk_9 (dk_at dksJ24_getLongUnaligned_2 2 rfl rfl)
theorem dJ24_getLongUnaligned_51 : decode cJ24_getLongUnaligned 51 = .ok (.lcmp, 1) := dk_148 (dk_at dksJ24_getLongUnaligned_2 3 rfl rfl)
theorem dJ24_getLongUnaligned_52 : decode cJ24_getLongUnaligned 52 = .ok (.ifCond .ne 43, 3) := dk_154 0 43 (dk_at dksJ24_getLongUnaligned_2 4 rfl rfl)
theorem dJ24_getLongUnaligned_55 : decode cJ24_getLongUnaligned 55 = .ok (.aload_n 0, 1) := dk_42 (dk_at dksJ24_getLongUnaligned_2 7 rfl rfl)
theorem dJ24_getLongUnaligned_56 : decode cJ24_getLongUnaligned 56 = .ok (.aload_n 1, 1) := dk_43 (dk_at dksJ24_getLongUnaligned_2 8 rfl rfl)
theorem dJ24_getLongUnaligned_57 : decode cJ24_getLongUnaligned 57 = .ok (.lload_n 2, 1) := dk_32 (dk_at dksJ24_getLongUnaligned_2 9 rfl rfl)
theorem dJ24_getLongUnaligned_58 : decode cJ24_getLongUnaligned 58 = .ok (.invokevirtual 47, 3) := dk_182 0 47 (dk_at dksJ24_getLongUnaligned_2 10 rfl rfl)
theorem dJ24_getLongUnaligned_61 : decode cJ24_getLongUnaligned 61 = .ok (.aload_n 0, 1) := dk_42 (dk_at dksJ24_getLongUnaligned_2 13 rfl rfl)
theorem dJ24_getLongUnaligned_62 : decode cJ24_getLongUnaligned 62 = .ok (.aload_n 1, 1) := dk_43 (dk_at dksJ24_getLongUnaligned_2 14 rfl rfl)
theorem dJ24_getLongUnaligned_63 : decode cJ24_getLongUnaligned 63 = .ok (.lload_n 2, 1) := dk_32 (dk_at dksJ24_getLongUnaligned_2 15 rfl rfl)
theorem dJ24_getLongUnaligned_64 : decode cJ24_getLongUnaligned 64 = .ok (.ldc2_w 203, 3) := dk_20 0 203 (dk_at dksJ24_getLongUnaligned_2 16 rfl rfl)
theorem dJ24_getLongUnaligned_67 : decode cJ24_getLongUnaligned 67 = .ok (.ladd, 1) := dk_97 (dk_at dksJ24_getLongUnaligned_2 19 rfl rfl)
theorem dJ24_getLongUnaligned_68 : decode cJ24_getLongUnaligned 68 = .ok (.invokevirtual 47, 3) := dk_182 0 47 (dk_at dksJ24_getLongUnaligned_2 20 rfl rfl)
theorem dJ24_getLongUnaligned_71 : decode cJ24_getLongUnaligned 71 = .ok (.aload_n 0, 1) := dk_42 (dk_at dksJ24_getLongUnaligned_2 23 rfl rfl)
theorem dJ24_getLongUnaligned_72 : decode cJ24_getLongUnaligned 72 = .ok (.aload_n 1, 1) := dk_43 (dk_at dksJ24_getLongUnaligned_3 0 rfl rfl)
theorem dJ24_getLongUnaligned_73 : decode cJ24_getLongUnaligned 73 = .ok (.lload_n 2, 1) := dk_32 (dk_at dksJ24_getLongUnaligned_3 1 rfl rfl)
theorem dJ24_getLongUnaligned_74 : decode cJ24_getLongUnaligned 74 = .ok (.ldc2_w 205, 3) := dk_20 0 205 (dk_at dksJ24_getLongUnaligned_3 2 rfl rfl)
theorem dJ24_getLongUnaligned_77 : decode cJ24_getLongUnaligned 77 = .ok (.ladd, 1) := dk_97 (dk_at dksJ24_getLongUnaligned_3 5 rfl rfl)
theorem dJ24_getLongUnaligned_78 : decode cJ24_getLongUnaligned 78 = .ok (.invokevirtual 47, 3) := dk_182 0 47 (dk_at dksJ24_getLongUnaligned_3 6 rfl rfl)
theorem dJ24_getLongUnaligned_81 : decode cJ24_getLongUnaligned 81 = .ok (.aload_n 0, 1) := dk_42 (dk_at dksJ24_getLongUnaligned_3 9 rfl rfl)
theorem dJ24_getLongUnaligned_82 : decode cJ24_getLongUnaligned 82 = .ok (.aload_n 1, 1) := dk_43 (dk_at dksJ24_getLongUnaligned_3 10 rfl rfl)
theorem dJ24_getLongUnaligned_83 : decode cJ24_getLongUnaligned 83 = .ok (.lload_n 2, 1) := dk_32 (dk_at dksJ24_getLongUnaligned_3 11 rfl rfl)
theorem dJ24_getLongUnaligned_84 : decode cJ24_getLongUnaligned 84 = .ok (.ldc2_w 702, 3) := dk_20 2 190 (dk_at dksJ24_getLongUnaligned_3 12 rfl rfl)
theorem dJ24_getLongUnaligned_87 : decode cJ24_getLongUnaligned 87 = .ok (.ladd, 1) := dk_97 (dk_at dksJ24_getLongUnaligned_3 15 rfl rfl)
theorem dJ24_getLongUnaligned_88 : decode cJ24_getLongUnaligned 88 = .ok (.invokevirtual 47, 3) := dk_182 0 47 (dk_at dksJ24_getLongUnaligned_3 16 rfl rfl)
theorem dJ24_getLongUnaligned_91 : decode cJ24_getLongUnaligned 91 = .ok (.invokestatic 704, 3) := dk_184 2 192 (dk_at dksJ24_getLongUnaligned_3 19 rfl rfl)
theorem dJ24_getLongUnaligned_94 : decode cJ24_getLongUnaligned 94 = .ok (.lreturn, 1) := dk_173 (dk_at dksJ24_getLongUnaligned_3 22 rfl rfl)
theorem dJ24_getLongUnaligned_95 : decode cJ24_getLongUnaligned 95 = .ok (.aload_n 0, 1) := dk_42 (dk_at dksJ24_getLongUnaligned_3 23 rfl rfl)
theorem dJ24_getLongUnaligned_96 : decode cJ24_getLongUnaligned 96 = .ok (.aload_n 1, 1) := dk_43 (dk_at dksJ24_getLongUnaligned_4 0 rfl rfl)
theorem dJ24_getLongUnaligned_97 : decode cJ24_getLongUnaligned 97 = .ok (.lload_n 2, 1) := dk_32 (dk_at dksJ24_getLongUnaligned_4 1 rfl rfl)
theorem dJ24_getLongUnaligned_98 : decode cJ24_getLongUnaligned 98 = .ok (.invokevirtual 39, 3) := dk_182 0 39 (dk_at dksJ24_getLongUnaligned_4 2 rfl rfl)
theorem dJ24_getLongUnaligned_101 : decode cJ24_getLongUnaligned 101 = .ok (.aload_n 0, 1) := dk_42 (dk_at dksJ24_getLongUnaligned_4 5 rfl rfl)
theorem dJ24_getLongUnaligned_102 : decode cJ24_getLongUnaligned 102 = .ok (.aload_n 1, 1) := dk_43 (dk_at dksJ24_getLongUnaligned_4 6 rfl rfl)
theorem dJ24_getLongUnaligned_103 : decode cJ24_getLongUnaligned 103 = .ok (.lload_n 2, 1) := dk_32 (dk_at dksJ24_getLongUnaligned_4 7 rfl rfl)
theorem dJ24_getLongUnaligned_104 : decode cJ24_getLongUnaligned 104 = .ok (.lconst 1, 1) := dk_10 (dk_at dksJ24_getLongUnaligned_4 8 rfl rfl)
theorem dJ24_getLongUnaligned_105 : decode cJ24_getLongUnaligned 105 = .ok (.ladd, 1) := dk_97 (dk_at dksJ24_getLongUnaligned_4 9 rfl rfl)
theorem dJ24_getLongUnaligned_106 : decode cJ24_getLongUnaligned 106 = .ok (.invokevirtual 39, 3) := dk_182 0 39 (dk_at dksJ24_getLongUnaligned_4 10 rfl rfl)
theorem dJ24_getLongUnaligned_109 : decode cJ24_getLongUnaligned 109 = .ok (.aload_n 0, 1) := dk_42 (dk_at dksJ24_getLongUnaligned_4 13 rfl rfl)
theorem dJ24_getLongUnaligned_110 : decode cJ24_getLongUnaligned 110 = .ok (.aload_n 1, 1) := dk_43 (dk_at dksJ24_getLongUnaligned_4 14 rfl rfl)
theorem dJ24_getLongUnaligned_111 : decode cJ24_getLongUnaligned 111 = .ok (.lload_n 2, 1) := dk_32 (dk_at dksJ24_getLongUnaligned_4 15 rfl rfl)
theorem dJ24_getLongUnaligned_112 : decode cJ24_getLongUnaligned 112 = .ok (.ldc2_w 203, 3) := dk_20 0 203 (dk_at dksJ24_getLongUnaligned_4 16 rfl rfl)
theorem dJ24_getLongUnaligned_115 : decode cJ24_getLongUnaligned 115 = .ok (.ladd, 1) := dk_97 (dk_at dksJ24_getLongUnaligned_4 19 rfl rfl)
theorem dJ24_getLongUnaligned_116 : decode cJ24_getLongUnaligned 116 = .ok (.invokevirtual 39, 3) := dk_182 0 39 (dk_at dksJ24_getLongUnaligned_4 20 rfl rfl)
theorem dJ24_getLongUnaligned_119 : decode cJ24_getLongUnaligned 119 = .ok (.aload_n 0, 1) := dk_42 (dk_at dksJ24_getLongUnaligned_4 23 rfl rfl)
theorem dJ24_getLongUnaligned_120 : decode cJ24_getLongUnaligned 120 = .ok (.aload_n 1, 1) := dk_43 (dk_at dksJ24_getLongUnaligned_5 0 rfl rfl)
theorem dJ24_getLongUnaligned_121 : decode cJ24_getLongUnaligned 121 = .ok (.lload_n 2, 1) := dk_32 (dk_at dksJ24_getLongUnaligned_5 1 rfl rfl)
theorem dJ24_getLongUnaligned_122 : decode cJ24_getLongUnaligned 122 = .ok (.ldc2_w 349, 3) := dk_20 1 93 (dk_at dksJ24_getLongUnaligned_5 2 rfl rfl)
theorem dJ24_getLongUnaligned_125 : decode cJ24_getLongUnaligned 125 = .ok (.ladd, 1) := dk_97 (dk_at dksJ24_getLongUnaligned_5 5 rfl rfl)
theorem dJ24_getLongUnaligned_126 : decode cJ24_getLongUnaligned 126 = .ok (.invokevirtual 39, 3) := dk_182 0 39 (dk_at dksJ24_getLongUnaligned_5 6 rfl rfl)
theorem dJ24_getLongUnaligned_129 : decode cJ24_getLongUnaligned 129 = .ok (.aload_n 0, 1) := dk_42 (dk_at dksJ24_getLongUnaligned_5 9 rfl rfl)
theorem dJ24_getLongUnaligned_130 : decode cJ24_getLongUnaligned 130 = .ok (.aload_n 1, 1) := dk_43 (dk_at dksJ24_getLongUnaligned_5 10 rfl rfl)
theorem dJ24_getLongUnaligned_131 : decode cJ24_getLongUnaligned 131 = .ok (.lload_n 2, 1) := dk_32 (dk_at dksJ24_getLongUnaligned_5 11 rfl rfl)
theorem dJ24_getLongUnaligned_132 : decode cJ24_getLongUnaligned 132 = .ok (.ldc2_w 205, 3) := dk_20 0 205 (dk_at dksJ24_getLongUnaligned_5 12 rfl rfl)
theorem dJ24_getLongUnaligned_135 : decode cJ24_getLongUnaligned 135 = .ok (.ladd, 1) := dk_97 (dk_at dksJ24_getLongUnaligned_5 15 rfl rfl)
theorem dJ24_getLongUnaligned_136 : decode cJ24_getLongUnaligned 136 = .ok (.invokevirtual 39, 3) := dk_182 0 39 (dk_at dksJ24_getLongUnaligned_5 16 rfl rfl)
theorem dJ24_getLongUnaligned_139 : decode cJ24_getLongUnaligned 139 = .ok (.aload_n 0, 1) := dk_42 (dk_at dksJ24_getLongUnaligned_5 19 rfl rfl)
theorem dJ24_getLongUnaligned_140 : decode cJ24_getLongUnaligned 140 = .ok (.aload_n 1, 1) := dk_43 (dk_at dksJ24_getLongUnaligned_5 20 rfl rfl)
theorem dJ24_getLongUnaligned_141 : decode cJ24_getLongUnaligned 141 = .ok (.lload_n 2, 1) := dk_32 (dk_at dksJ24_getLongUnaligned_5 21 rfl rfl)
theorem dJ24_getLongUnaligned_142 : decode cJ24_getLongUnaligned 142 = .ok (.ldc2_w 707, 3) := dk_20 2 195 (dk_at dksJ24_getLongUnaligned_6 0 rfl rfl)
theorem dJ24_getLongUnaligned_145 : decode cJ24_getLongUnaligned 145 = .ok (.ladd, 1) := dk_97 (dk_at dksJ24_getLongUnaligned_6 3 rfl rfl)
theorem dJ24_getLongUnaligned_146 : decode cJ24_getLongUnaligned 146 = .ok (.invokevirtual 39, 3) := dk_182 0 39 (dk_at dksJ24_getLongUnaligned_6 4 rfl rfl)
theorem dJ24_getLongUnaligned_149 : decode cJ24_getLongUnaligned 149 = .ok (.aload_n 0, 1) := dk_42 (dk_at dksJ24_getLongUnaligned_6 7 rfl rfl)
theorem dJ24_getLongUnaligned_150 : decode cJ24_getLongUnaligned 150 = .ok (.aload_n 1, 1) := dk_43 (dk_at dksJ24_getLongUnaligned_6 8 rfl rfl)
theorem dJ24_getLongUnaligned_151 : decode cJ24_getLongUnaligned 151 = .ok (.lload_n 2, 1) := dk_32 (dk_at dksJ24_getLongUnaligned_6 9 rfl rfl)
theorem dJ24_getLongUnaligned_152 : decode cJ24_getLongUnaligned 152 = .ok (.ldc2_w 702, 3) := dk_20 2 190 (dk_at dksJ24_getLongUnaligned_6 10 rfl rfl)
theorem dJ24_getLongUnaligned_155 : decode cJ24_getLongUnaligned 155 = .ok (.ladd, 1) := dk_97 (dk_at dksJ24_getLongUnaligned_6 13 rfl rfl)
theorem dJ24_getLongUnaligned_156 : decode cJ24_getLongUnaligned 156 = .ok (.invokevirtual 39, 3) := dk_182 0 39 (dk_at dksJ24_getLongUnaligned_6 14 rfl rfl)
theorem dJ24_getLongUnaligned_159 : decode cJ24_getLongUnaligned 159 = .ok (.aload_n 0, 1) := dk_42 (dk_at dksJ24_getLongUnaligned_6 17 rfl rfl)
theorem dJ24_getLongUnaligned_160 : decode cJ24_getLongUnaligned 160 = .ok (.aload_n 1, 1) := dk_43 (dk_at dksJ24_getLongUnaligned_6 18 rfl rfl)
theorem dJ24_getLongUnaligned_161 : decode cJ24_getLongUnaligned 161 = .ok (.lload_n 2, 1) := dk_32 (dk_at dksJ24_getLongUnaligned_6 19 rfl rfl)
theorem dJ24_getLongUnaligned_162 : decode cJ24_getLongUnaligned 162 = .ok (.ldc2_w 696, 3) := dk_20 2 184 (dk_at dksJ24_getLongUnaligned_6 20 rfl rfl)
theorem dJ24_getLongUnaligned_165 : decode cJ24_getLongUnaligned 165 = .ok (.ladd, 1) := dk_97 (dk_at dksJ24_getLongUnaligned_6 23 rfl rfl)
theorem dJ24_getLongUnaligned_166 : decode cJ24_getLongUnaligned 166 = .ok (.invokevirtual 39, 3) := dk_182 0 39 (dk_at dksJ24_getLongUnaligned_7 0 rfl rfl)
theorem dJ24_getLongUnaligned_169 : decode cJ24_getLongUnaligned 169 = .ok (.invokestatic 709, 3) := dk_184 2 197 (dk_at dksJ24_getLongUnaligned_7 3 rfl rfl)
theorem dJ24_getLongUnaligned_172 : decode cJ24_getLongUnaligned 172 = .ok (.lreturn, 1) := dk_173 (dk_at dksJ24_getLongUnaligned_7 6 rfl rfl)
abbrev cJ24_makeLong : ByteArray := prog_97_method_353_code
def yJ24_makeLong : MethodName := ⟨RJ24, "makeLong", "(II)J"⟩
def dkwJ24_makeLong_1 : List UInt8 := [173]
abbrev dktJ24_makeLong_1 : List UInt8 := dkwJ24_makeLong_1 ++ []
def dkwJ24_makeLong_0 : List UInt8 := [26, 184, 3, 23, 16, 32, 3, 184, 3, 16, 121, 27, 184, 3, 23, 16, 32, 16, 32, 184, 3, 16, 121, 129]
abbrev dktJ24_makeLong_0 : List UInt8 := dkwJ24_makeLong_0 ++ dktJ24_makeLong_1
theorem dksJ24_makeLong_0 : cJ24_makeLong.data.toList.drop 0 = dktJ24_makeLong_0 := by decide +kernel
theorem dksJ24_makeLong_1 : cJ24_makeLong.data.toList.drop 24 = dktJ24_makeLong_1 := dk_seg dksJ24_makeLong_0 24 rfl rfl
theorem dJ24_makeLong_0 : decode cJ24_makeLong 0 = .ok (.iload_n 0, 1) := dk_26 (dk_at dksJ24_makeLong_0 0 rfl rfl)
theorem dJ24_makeLong_1 : decode cJ24_makeLong 1 = .ok (.invokestatic 791, 3) := dk_184 3 23 (dk_at dksJ24_makeLong_0 1 rfl rfl)
theorem dJ24_makeLong_4 : decode cJ24_makeLong 4 = .ok (.bipush 32, 2) := dk_16 32 (dk_at dksJ24_makeLong_0 4 rfl rfl)
theorem dJ24_makeLong_6 : decode cJ24_makeLong 6 = .ok (.iconst 0, 1) := dk_3 (dk_at dksJ24_makeLong_0 6 rfl rfl)
theorem dJ24_makeLong_7 : decode cJ24_makeLong 7 = .ok (.invokestatic 784, 3) := dk_184 3 16 (dk_at dksJ24_makeLong_0 7 rfl rfl)
theorem dJ24_makeLong_10 : decode cJ24_makeLong 10 = .ok (.lshl, 1) := dk_121 (dk_at dksJ24_makeLong_0 10 rfl rfl)
theorem dJ24_makeLong_11 : decode cJ24_makeLong 11 = .ok (.iload_n 1, 1) := dk_27 (dk_at dksJ24_makeLong_0 11 rfl rfl)
theorem dJ24_makeLong_12 : decode cJ24_makeLong 12 = .ok (.invokestatic 791, 3) := dk_184 3 23 (dk_at dksJ24_makeLong_0 12 rfl rfl)
theorem dJ24_makeLong_15 : decode cJ24_makeLong 15 = .ok (.bipush 32, 2) := dk_16 32 (dk_at dksJ24_makeLong_0 15 rfl rfl)
theorem dJ24_makeLong_17 : decode cJ24_makeLong 17 = .ok (.bipush 32, 2) := dk_16 32 (dk_at dksJ24_makeLong_0 17 rfl rfl)
theorem dJ24_makeLong_19 : decode cJ24_makeLong 19 = .ok (.invokestatic 784, 3) := dk_184 3 16 (dk_at dksJ24_makeLong_0 19 rfl rfl)
theorem dJ24_makeLong_22 : decode cJ24_makeLong 22 = .ok (.lshl, 1) := dk_121 (dk_at dksJ24_makeLong_0 22 rfl rfl)
theorem dJ24_makeLong_23 : decode cJ24_makeLong 23 = .ok (.lor, 1) := dk_129 (dk_at dksJ24_makeLong_0 23 rfl rfl)
theorem dJ24_makeLong_24 : decode cJ24_makeLong 24 = .ok (.lreturn, 1) := dk_173 (dk_at dksJ24_makeLong_1 0 rfl rfl)
abbrev cJ24_toUnsignedLong : ByteArray := prog_97_method_370_code
def yJ24_toUnsignedLong : MethodName := ⟨RJ24, "toUnsignedLong", "(I)J"⟩
def dkwJ24_toUnsignedLong_0 : List UInt8 := [26, 133, 20, 3, 44, 127, 173]
abbrev dktJ24_toUnsignedLong_0 : List UInt8 := dkwJ24_toUnsignedLong_0 ++ []
theorem dksJ24_toUnsignedLong_0 : cJ24_toUnsignedLong.data.toList.drop 0 = dktJ24_toUnsignedLong_0 := by decide +kernel
theorem dJ24_toUnsignedLong_0 : decode cJ24_toUnsignedLong 0 = .ok (.iload_n 0, 1) := dk_26 (dk_at dksJ24_toUnsignedLong_0 0 rfl rfl)
theorem dJ24_toUnsignedLong_1 : decode cJ24_toUnsignedLong 1 = .ok (.i2l, 1) := dk_133 (dk_at dksJ24_toUnsignedLong_0 1 rfl rfl)
theorem dJ24_toUnsignedLong_2 : decode cJ24_toUnsignedLong 2 = .ok (.ldc2_w 812, 3) := dk_20 3 44 (dk_at dksJ24_toUnsignedLong_0 2 rfl rfl)
theorem dJ24_toUnsignedLong_5 : decode cJ24_toUnsignedLong 5 = .ok (.land, 1) := dk_127 (dk_at dksJ24_toUnsignedLong_0 5 rfl rfl)
theorem dJ24_toUnsignedLong_6 : decode cJ24_toUnsignedLong 6 = .ok (.lreturn, 1) := dk_173 (dk_at dksJ24_toUnsignedLong_0 6 rfl rfl)
abbrev cJ24_pickPos : ByteArray := prog_97_method_350_code
def yJ24_pickPos : MethodName := ⟨RJ24, "pickPos", "(II)I"⟩
def dkwJ24_pickPos_0 : List UInt8 := [178, 1, 95, 153, 0, 9, 26, 27, 100, 167, 0, 4, 27, 172]
abbrev dktJ24_pickPos_0 : List UInt8 := dkwJ24_pickPos_0 ++ []
theorem dksJ24_pickPos_0 : cJ24_pickPos.data.toList.drop 0 = dktJ24_pickPos_0 := by decide +kernel
theorem dJ24_pickPos_0 : decode cJ24_pickPos 0 = .ok (.getstatic 351, 3) := dk_178 1 95 (dk_at dksJ24_pickPos_0 0 rfl rfl)
theorem dJ24_pickPos_3 : decode cJ24_pickPos 3 = .ok (.ifCond .eq 9, 3) := dk_153 0 9 (dk_at dksJ24_pickPos_0 3 rfl rfl)
theorem dJ24_pickPos_6 : decode cJ24_pickPos 6 = .ok (.iload_n 0, 1) := dk_26 (dk_at dksJ24_pickPos_0 6 rfl rfl)
theorem dJ24_pickPos_7 : decode cJ24_pickPos 7 = .ok (.iload_n 1, 1) := dk_27 (dk_at dksJ24_pickPos_0 7 rfl rfl)
theorem dJ24_pickPos_8 : decode cJ24_pickPos 8 = .ok (.isub, 1) := dk_100 (dk_at dksJ24_pickPos_0 8 rfl rfl)
theorem dJ24_pickPos_9 : decode cJ24_pickPos 9 = .ok (.goto 4, 3) := dk_167 0 4 (dk_at dksJ24_pickPos_0 9 rfl rfl)
theorem dJ24_pickPos_12 : decode cJ24_pickPos 12 = .ok (.iload_n 1, 1) := dk_27 (dk_at dksJ24_pickPos_0 12 rfl rfl)
theorem dJ24_pickPos_13 : decode cJ24_pickPos 13 = .ok (.ireturn, 1) := dk_172 (dk_at dksJ24_pickPos_0 13 rfl rfl)
abbrev cJ24_makeLong_2 : ByteArray := prog_97_method_352_code
def yJ24_makeLong_2 : MethodName := ⟨RJ24, "makeLong", "(SSSS)J"⟩
def dkwJ24_makeLong_2_2 : List UInt8 := [121, 129, 173]
abbrev dktJ24_makeLong_2_2 : List UInt8 := dkwJ24_makeLong_2_2 ++ []
def dkwJ24_makeLong_2_1 : List UInt8 := [28, 184, 3, 20, 16, 48, 16, 32, 184, 3, 16, 121, 129, 29, 184, 3, 20, 16, 48, 16, 48, 184, 3, 16]
abbrev dktJ24_makeLong_2_1 : List UInt8 := dkwJ24_makeLong_2_1 ++ dktJ24_makeLong_2_2
def dkwJ24_makeLong_2_0 : List UInt8 := [26, 184, 3, 20, 16, 48, 3, 184, 3, 16, 121, 27, 184, 3, 20, 16, 48, 16, 16, 184, 3, 16, 121, 129]
abbrev dktJ24_makeLong_2_0 : List UInt8 := dkwJ24_makeLong_2_0 ++ dktJ24_makeLong_2_1
theorem dksJ24_makeLong_2_0 : cJ24_makeLong_2.data.toList.drop 0 = dktJ24_makeLong_2_0 := by decide +kernel
theorem dksJ24_makeLong_2_1 : cJ24_makeLong_2.data.toList.drop 24 = dktJ24_makeLong_2_1 := dk_seg dksJ24_makeLong_2_0 24 rfl rfl
theorem dksJ24_makeLong_2_2 : cJ24_makeLong_2.data.toList.drop 48 = dktJ24_makeLong_2_2 := dk_seg dksJ24_makeLong_2_1 24 rfl rfl
theorem dJ24_makeLong_2_0 : decode cJ24_makeLong_2 0 = .ok (.iload_n 0, 1) := dk_26 (dk_at dksJ24_makeLong_2_0 0 rfl rfl)
theorem dJ24_makeLong_2_1 : decode cJ24_makeLong_2 1 = .ok (.invokestatic 788, 3) := dk_184 3 20 (dk_at dksJ24_makeLong_2_0 1 rfl rfl)
theorem dJ24_makeLong_2_4 : decode cJ24_makeLong_2 4 = .ok (.bipush 48, 2) := dk_16 48 (dk_at dksJ24_makeLong_2_0 4 rfl rfl)
theorem dJ24_makeLong_2_6 : decode cJ24_makeLong_2 6 = .ok (.iconst 0, 1) := dk_3 (dk_at dksJ24_makeLong_2_0 6 rfl rfl)
theorem dJ24_makeLong_2_7 : decode cJ24_makeLong_2 7 = .ok (.invokestatic 784, 3) := dk_184 3 16 (dk_at dksJ24_makeLong_2_0 7 rfl rfl)
theorem dJ24_makeLong_2_10 : decode cJ24_makeLong_2 10 = .ok (.lshl, 1) := dk_121 (dk_at dksJ24_makeLong_2_0 10 rfl rfl)
theorem dJ24_makeLong_2_11 : decode cJ24_makeLong_2 11 = .ok (.iload_n 1, 1) := dk_27 (dk_at dksJ24_makeLong_2_0 11 rfl rfl)
theorem dJ24_makeLong_2_12 : decode cJ24_makeLong_2 12 = .ok (.invokestatic 788, 3) := dk_184 3 20 (dk_at dksJ24_makeLong_2_0 12 rfl rfl)
theorem dJ24_makeLong_2_15 : decode cJ24_makeLong_2 15 = .ok (.bipush 48, 2) := dk_16 48 (dk_at dksJ24_makeLong_2_0 15 rfl rfl)
theorem dJ24_makeLong_2_17 : decode cJ24_makeLong_2 17 = .ok (.bipush 16, 2) := dk_16 16 (dk_at dksJ24_makeLong_2_0 17 rfl rfl)
theorem dJ24_makeLong_2_19 : decode cJ24_makeLong_2 19 = .ok (.invokestatic 784, 3) := dk_184 3 16 (dk_at dksJ24_makeLong_2_0 19 rfl rfl)
theorem dJ24_makeLong_2_22 : decode cJ24_makeLong_2 22 = .ok (.lshl, 1) := dk_121 (dk_at dksJ24_makeLong_2_0 22 rfl rfl)
theorem dJ24_makeLong_2_23 : decode cJ24_makeLong_2 23 = .ok (.lor, 1) := dk_129 (dk_at dksJ24_makeLong_2_0 23 rfl rfl)
theorem dJ24_makeLong_2_24 : decode cJ24_makeLong_2 24 = .ok (.iload_n 2, 1) := dk_28 (dk_at dksJ24_makeLong_2_1 0 rfl rfl)
theorem dJ24_makeLong_2_25 : decode cJ24_makeLong_2 25 = .ok (.invokestatic 788, 3) := dk_184 3 20 (dk_at dksJ24_makeLong_2_1 1 rfl rfl)
theorem dJ24_makeLong_2_28 : decode cJ24_makeLong_2 28 = .ok (.bipush 48, 2) := dk_16 48 (dk_at dksJ24_makeLong_2_1 4 rfl rfl)
theorem dJ24_makeLong_2_30 : decode cJ24_makeLong_2 30 = .ok (.bipush 32, 2) := dk_16 32 (dk_at dksJ24_makeLong_2_1 6 rfl rfl)
theorem dJ24_makeLong_2_32 : decode cJ24_makeLong_2 32 = .ok (.invokestatic 784, 3) := dk_184 3 16 (dk_at dksJ24_makeLong_2_1 8 rfl rfl)
theorem dJ24_makeLong_2_35 : decode cJ24_makeLong_2 35 = .ok (.lshl, 1) := dk_121 (dk_at dksJ24_makeLong_2_1 11 rfl rfl)
theorem dJ24_makeLong_2_36 : decode cJ24_makeLong_2 36 = .ok (.lor, 1) := dk_129 (dk_at dksJ24_makeLong_2_1 12 rfl rfl)
theorem dJ24_makeLong_2_37 : decode cJ24_makeLong_2 37 = .ok (.iload_n 3, 1) := dk_29 (dk_at dksJ24_makeLong_2_1 13 rfl rfl)
theorem dJ24_makeLong_2_38 : decode cJ24_makeLong_2 38 = .ok (.invokestatic 788, 3) := dk_184 3 20 (dk_at dksJ24_makeLong_2_1 14 rfl rfl)
theorem dJ24_makeLong_2_41 : decode cJ24_makeLong_2 41 = .ok (.bipush 48, 2) := dk_16 48 (dk_at dksJ24_makeLong_2_1 17 rfl rfl)
theorem dJ24_makeLong_2_43 : decode cJ24_makeLong_2 43 = .ok (.bipush 48, 2) := dk_16 48 (dk_at dksJ24_makeLong_2_1 19 rfl rfl)
theorem dJ24_makeLong_2_45 : decode cJ24_makeLong_2 45 = .ok (.invokestatic 784, 3) := dk_184 3 16 (dk_at dksJ24_makeLong_2_1 21 rfl rfl)
theorem dJ24_makeLong_2_48 : decode cJ24_makeLong_2 48 = .ok (.lshl, 1) := dk_121 (dk_at dksJ24_makeLong_2_2 0 rfl rfl)
theorem dJ24_makeLong_2_49 : decode cJ24_makeLong_2 49 = .ok (.lor, 1) := dk_129 (dk_at dksJ24_makeLong_2_2 1 rfl rfl)
theorem dJ24_makeLong_2_50 : decode cJ24_makeLong_2 50 = .ok (.lreturn, 1) := dk_173 (dk_at dksJ24_makeLong_2_2 2 rfl rfl)
abbrev cJ24_toUnsignedLong_2 : ByteArray := prog_97_method_369_code
def yJ24_toUnsignedLong_2 : MethodName := ⟨RJ24, "toUnsignedLong", "(S)J"⟩
def dkwJ24_toUnsignedLong_2_0 : List UInt8 := [26, 133, 20, 3, 42, 127, 173]
abbrev dktJ24_toUnsignedLong_2_0 : List UInt8 := dkwJ24_toUnsignedLong_2_0 ++ []
theorem dksJ24_toUnsignedLong_2_0 : cJ24_toUnsignedLong_2.data.toList.drop 0 = dktJ24_toUnsignedLong_2_0 := by decide +kernel
theorem dJ24_toUnsignedLong_2_0 : decode cJ24_toUnsignedLong_2 0 = .ok (.iload_n 0, 1) := dk_26 (dk_at dksJ24_toUnsignedLong_2_0 0 rfl rfl)
theorem dJ24_toUnsignedLong_2_1 : decode cJ24_toUnsignedLong_2 1 = .ok (.i2l, 1) := dk_133 (dk_at dksJ24_toUnsignedLong_2_0 1 rfl rfl)
theorem dJ24_toUnsignedLong_2_2 : decode cJ24_toUnsignedLong_2 2 = .ok (.ldc2_w 810, 3) := dk_20 3 42 (dk_at dksJ24_toUnsignedLong_2_0 2 rfl rfl)
theorem dJ24_toUnsignedLong_2_5 : decode cJ24_toUnsignedLong_2 5 = .ok (.land, 1) := dk_127 (dk_at dksJ24_toUnsignedLong_2_0 5 rfl rfl)
theorem dJ24_toUnsignedLong_2_6 : decode cJ24_toUnsignedLong_2 6 = .ok (.lreturn, 1) := dk_173 (dk_at dksJ24_toUnsignedLong_2_0 6 rfl rfl)
abbrev cJ24_makeLong_3 : ByteArray := prog_97_method_351_code
def yJ24_makeLong_3 : MethodName := ⟨RJ24, "makeLong", "(BBBBBBBB)J"⟩
def dkwJ24_makeLong_3_4 : List UInt8 := [184, 3, 13, 16, 56, 16, 56, 184, 3, 16, 121, 129, 173]
abbrev dktJ24_makeLong_3_4 : List UInt8 := dkwJ24_makeLong_3_4 ++ []
def dkwJ24_makeLong_3_3 : List UInt8 := [16, 40, 184, 3, 16, 121, 129, 21, 6, 184, 3, 13, 16, 56, 16, 48, 184, 3, 16, 121, 129, 21, 7]
abbrev dktJ24_makeLong_3_3 : List UInt8 := dkwJ24_makeLong_3_3 ++ dktJ24_makeLong_3_4
def dkwJ24_makeLong_3_2 : List UInt8 := [121, 129, 21, 4, 184, 3, 13, 16, 56, 16, 32, 184, 3, 16, 121, 129, 21, 5, 184, 3, 13, 16, 56]
abbrev dktJ24_makeLong_3_2 : List UInt8 := dkwJ24_makeLong_3_2 ++ dktJ24_makeLong_3_3
def dkwJ24_makeLong_3_1 : List UInt8 := [28, 184, 3, 13, 16, 56, 16, 16, 184, 3, 16, 121, 129, 29, 184, 3, 13, 16, 56, 16, 24, 184, 3, 16]
abbrev dktJ24_makeLong_3_1 : List UInt8 := dkwJ24_makeLong_3_1 ++ dktJ24_makeLong_3_2
def dkwJ24_makeLong_3_0 : List UInt8 := [26, 184, 3, 13, 16, 56, 3, 184, 3, 16, 121, 27, 184, 3, 13, 16, 56, 16, 8, 184, 3, 16, 121, 129]
abbrev dktJ24_makeLong_3_0 : List UInt8 := dkwJ24_makeLong_3_0 ++ dktJ24_makeLong_3_1
theorem dksJ24_makeLong_3_0 : cJ24_makeLong_3.data.toList.drop 0 = dktJ24_makeLong_3_0 := by decide +kernel
theorem dksJ24_makeLong_3_1 : cJ24_makeLong_3.data.toList.drop 24 = dktJ24_makeLong_3_1 := dk_seg dksJ24_makeLong_3_0 24 rfl rfl
theorem dksJ24_makeLong_3_2 : cJ24_makeLong_3.data.toList.drop 48 = dktJ24_makeLong_3_2 := dk_seg dksJ24_makeLong_3_1 24 rfl rfl
theorem dksJ24_makeLong_3_3 : cJ24_makeLong_3.data.toList.drop 71 = dktJ24_makeLong_3_3 := dk_seg dksJ24_makeLong_3_2 23 rfl rfl
theorem dksJ24_makeLong_3_4 : cJ24_makeLong_3.data.toList.drop 94 = dktJ24_makeLong_3_4 := dk_seg dksJ24_makeLong_3_3 23 rfl rfl
theorem dJ24_makeLong_3_0 : decode cJ24_makeLong_3 0 = .ok (.iload_n 0, 1) := dk_26 (dk_at dksJ24_makeLong_3_0 0 rfl rfl)
theorem dJ24_makeLong_3_1 : decode cJ24_makeLong_3 1 = .ok (.invokestatic 781, 3) := dk_184 3 13 (dk_at dksJ24_makeLong_3_0 1 rfl rfl)
theorem dJ24_makeLong_3_4 : decode cJ24_makeLong_3 4 = .ok (.bipush 56, 2) := dk_16 56 (dk_at dksJ24_makeLong_3_0 4 rfl rfl)
theorem dJ24_makeLong_3_6 : decode cJ24_makeLong_3 6 = .ok (.iconst 0, 1) := dk_3 (dk_at dksJ24_makeLong_3_0 6 rfl rfl)
theorem dJ24_makeLong_3_7 : decode cJ24_makeLong_3 7 = .ok (.invokestatic 784, 3) := dk_184 3 16 (dk_at dksJ24_makeLong_3_0 7 rfl rfl)
theorem dJ24_makeLong_3_10 : decode cJ24_makeLong_3 10 = .ok (.lshl, 1) := dk_121 (dk_at dksJ24_makeLong_3_0 10 rfl rfl)
theorem dJ24_makeLong_3_11 : decode cJ24_makeLong_3 11 = .ok (.iload_n 1, 1) := dk_27 (dk_at dksJ24_makeLong_3_0 11 rfl rfl)
theorem dJ24_makeLong_3_12 : decode cJ24_makeLong_3 12 = .ok (.invokestatic 781, 3) := dk_184 3 13 (dk_at dksJ24_makeLong_3_0 12 rfl rfl)
theorem dJ24_makeLong_3_15 : decode cJ24_makeLong_3 15 = .ok (.bipush 56, 2) := dk_16 56 (dk_at dksJ24_makeLong_3_0 15 rfl rfl)
theorem dJ24_makeLong_3_17 : decode cJ24_makeLong_3 17 = .ok (.bipush 8, 2) := dk_16 8 (dk_at dksJ24_makeLong_3_0 17 rfl rfl)
theorem dJ24_makeLong_3_19 : decode cJ24_makeLong_3 19 = .ok (.invokestatic 784, 3) := dk_184 3 16 (dk_at dksJ24_makeLong_3_0 19 rfl rfl)
theorem dJ24_makeLong_3_22 : decode cJ24_makeLong_3 22 = .ok (.lshl, 1) := dk_121 (dk_at dksJ24_makeLong_3_0 22 rfl rfl)
theorem dJ24_makeLong_3_23 : decode cJ24_makeLong_3 23 = .ok (.lor, 1) := dk_129 (dk_at dksJ24_makeLong_3_0 23 rfl rfl)
theorem dJ24_makeLong_3_24 : decode cJ24_makeLong_3 24 = .ok (.iload_n 2, 1) := dk_28 (dk_at dksJ24_makeLong_3_1 0 rfl rfl)
theorem dJ24_makeLong_3_25 : decode cJ24_makeLong_3 25 = .ok (.invokestatic 781, 3) := dk_184 3 13 (dk_at dksJ24_makeLong_3_1 1 rfl rfl)
theorem dJ24_makeLong_3_28 : decode cJ24_makeLong_3 28 = .ok (.bipush 56, 2) := dk_16 56 (dk_at dksJ24_makeLong_3_1 4 rfl rfl)
theorem dJ24_makeLong_3_30 : decode cJ24_makeLong_3 30 = .ok (.bipush 16, 2) := dk_16 16 (dk_at dksJ24_makeLong_3_1 6 rfl rfl)
theorem dJ24_makeLong_3_32 : decode cJ24_makeLong_3 32 = .ok (.invokestatic 784, 3) := dk_184 3 16 (dk_at dksJ24_makeLong_3_1 8 rfl rfl)
theorem dJ24_makeLong_3_35 : decode cJ24_makeLong_3 35 = .ok (.lshl, 1) := dk_121 (dk_at dksJ24_makeLong_3_1 11 rfl rfl)
theorem dJ24_makeLong_3_36 : decode cJ24_makeLong_3 36 = .ok (.lor, 1) := dk_129 (dk_at dksJ24_makeLong_3_1 12 rfl rfl)
theorem dJ24_makeLong_3_37 : decode cJ24_makeLong_3 37 = .ok (.iload_n 3, 1) := dk_29 (dk_at dksJ24_makeLong_3_1 13 rfl rfl)
theorem dJ24_makeLong_3_38 : decode cJ24_makeLong_3 38 = .ok (.invokestatic 781, 3) := dk_184 3 13 (dk_at dksJ24_makeLong_3_1 14 rfl rfl)
theorem dJ24_makeLong_3_41 : decode cJ24_makeLong_3 41 = .ok (.bipush 56, 2) := dk_16 56 (dk_at dksJ24_makeLong_3_1 17 rfl rfl)
theorem dJ24_makeLong_3_43 : decode cJ24_makeLong_3 43 = .ok (.bipush 24, 2) := dk_16 24 (dk_at dksJ24_makeLong_3_1 19 rfl rfl)
theorem dJ24_makeLong_3_45 : decode cJ24_makeLong_3 45 = .ok (.invokestatic 784, 3) := dk_184 3 16 (dk_at dksJ24_makeLong_3_1 21 rfl rfl)
theorem dJ24_makeLong_3_48 : decode cJ24_makeLong_3 48 = .ok (.lshl, 1) := dk_121 (dk_at dksJ24_makeLong_3_2 0 rfl rfl)
theorem dJ24_makeLong_3_49 : decode cJ24_makeLong_3 49 = .ok (.lor, 1) := dk_129 (dk_at dksJ24_makeLong_3_2 1 rfl rfl)
theorem dJ24_makeLong_3_50 : decode cJ24_makeLong_3 50 = .ok (.iload 4, 2) := dk_21 4 (dk_at dksJ24_makeLong_3_2 2 rfl rfl)
theorem dJ24_makeLong_3_52 : decode cJ24_makeLong_3 52 = .ok (.invokestatic 781, 3) := dk_184 3 13 (dk_at dksJ24_makeLong_3_2 4 rfl rfl)
theorem dJ24_makeLong_3_55 : decode cJ24_makeLong_3 55 = .ok (.bipush 56, 2) := dk_16 56 (dk_at dksJ24_makeLong_3_2 7 rfl rfl)
theorem dJ24_makeLong_3_57 : decode cJ24_makeLong_3 57 = .ok (.bipush 32, 2) := dk_16 32 (dk_at dksJ24_makeLong_3_2 9 rfl rfl)
theorem dJ24_makeLong_3_59 : decode cJ24_makeLong_3 59 = .ok (.invokestatic 784, 3) := dk_184 3 16 (dk_at dksJ24_makeLong_3_2 11 rfl rfl)
theorem dJ24_makeLong_3_62 : decode cJ24_makeLong_3 62 = .ok (.lshl, 1) := dk_121 (dk_at dksJ24_makeLong_3_2 14 rfl rfl)
theorem dJ24_makeLong_3_63 : decode cJ24_makeLong_3 63 = .ok (.lor, 1) := dk_129 (dk_at dksJ24_makeLong_3_2 15 rfl rfl)
theorem dJ24_makeLong_3_64 : decode cJ24_makeLong_3 64 = .ok (.iload 5, 2) := dk_21 5 (dk_at dksJ24_makeLong_3_2 16 rfl rfl)
theorem dJ24_makeLong_3_66 : decode cJ24_makeLong_3 66 = .ok (.invokestatic 781, 3) := dk_184 3 13 (dk_at dksJ24_makeLong_3_2 18 rfl rfl)
theorem dJ24_makeLong_3_69 : decode cJ24_makeLong_3 69 = .ok (.bipush 56, 2) := dk_16 56 (dk_at dksJ24_makeLong_3_2 21 rfl rfl)
theorem dJ24_makeLong_3_71 : decode cJ24_makeLong_3 71 = .ok (.bipush 40, 2) := dk_16 40 (dk_at dksJ24_makeLong_3_3 0 rfl rfl)
theorem dJ24_makeLong_3_73 : decode cJ24_makeLong_3 73 = .ok (.invokestatic 784, 3) := dk_184 3 16 (dk_at dksJ24_makeLong_3_3 2 rfl rfl)
theorem dJ24_makeLong_3_76 : decode cJ24_makeLong_3 76 = .ok (.lshl, 1) := dk_121 (dk_at dksJ24_makeLong_3_3 5 rfl rfl)
theorem dJ24_makeLong_3_77 : decode cJ24_makeLong_3 77 = .ok (.lor, 1) := dk_129 (dk_at dksJ24_makeLong_3_3 6 rfl rfl)
theorem dJ24_makeLong_3_78 : decode cJ24_makeLong_3 78 = .ok (.iload 6, 2) := dk_21 6 (dk_at dksJ24_makeLong_3_3 7 rfl rfl)
theorem dJ24_makeLong_3_80 : decode cJ24_makeLong_3 80 = .ok (.invokestatic 781, 3) := dk_184 3 13 (dk_at dksJ24_makeLong_3_3 9 rfl rfl)
theorem dJ24_makeLong_3_83 : decode cJ24_makeLong_3 83 = .ok (.bipush 56, 2) := dk_16 56 (dk_at dksJ24_makeLong_3_3 12 rfl rfl)
theorem dJ24_makeLong_3_85 : decode cJ24_makeLong_3 85 = .ok (.bipush 48, 2) := dk_16 48 (dk_at dksJ24_makeLong_3_3 14 rfl rfl)
theorem dJ24_makeLong_3_87 : decode cJ24_makeLong_3 87 = .ok (.invokestatic 784, 3) := dk_184 3 16 (dk_at dksJ24_makeLong_3_3 16 rfl rfl)
theorem dJ24_makeLong_3_90 : decode cJ24_makeLong_3 90 = .ok (.lshl, 1) := dk_121 (dk_at dksJ24_makeLong_3_3 19 rfl rfl)
theorem dJ24_makeLong_3_91 : decode cJ24_makeLong_3 91 = .ok (.lor, 1) := dk_129 (dk_at dksJ24_makeLong_3_3 20 rfl rfl)
theorem dJ24_makeLong_3_92 : decode cJ24_makeLong_3 92 = .ok (.iload 7, 2) := dk_21 7 (dk_at dksJ24_makeLong_3_3 21 rfl rfl)
theorem dJ24_makeLong_3_94 : decode cJ24_makeLong_3 94 = .ok (.invokestatic 781, 3) := dk_184 3 13 (dk_at dksJ24_makeLong_3_4 0 rfl rfl)
theorem dJ24_makeLong_3_97 : decode cJ24_makeLong_3 97 = .ok (.bipush 56, 2) := dk_16 56 (dk_at dksJ24_makeLong_3_4 3 rfl rfl)
theorem dJ24_makeLong_3_99 : decode cJ24_makeLong_3 99 = .ok (.bipush 56, 2) := dk_16 56 (dk_at dksJ24_makeLong_3_4 5 rfl rfl)
theorem dJ24_makeLong_3_101 : decode cJ24_makeLong_3 101 = .ok (.invokestatic 784, 3) := dk_184 3 16 (dk_at dksJ24_makeLong_3_4 7 rfl rfl)
theorem dJ24_makeLong_3_104 : decode cJ24_makeLong_3 104 = .ok (.lshl, 1) := dk_121 (dk_at dksJ24_makeLong_3_4 10 rfl rfl)
theorem dJ24_makeLong_3_105 : decode cJ24_makeLong_3 105 = .ok (.lor, 1) := dk_129 (dk_at dksJ24_makeLong_3_4 11 rfl rfl)
theorem dJ24_makeLong_3_106 : decode cJ24_makeLong_3 106 = .ok (.lreturn, 1) := dk_173 (dk_at dksJ24_makeLong_3_4 12 rfl rfl)
abbrev cJ24_toUnsignedLong_3 : ByteArray := prog_97_method_368_code
def yJ24_toUnsignedLong_3 : MethodName := ⟨RJ24, "toUnsignedLong", "(B)J"⟩
def dkwJ24_toUnsignedLong_3_0 : List UInt8 := [26, 133, 20, 3, 40, 127, 173]
abbrev dktJ24_toUnsignedLong_3_0 : List UInt8 := dkwJ24_toUnsignedLong_3_0 ++ []
theorem dksJ24_toUnsignedLong_3_0 : cJ24_toUnsignedLong_3.data.toList.drop 0 = dktJ24_toUnsignedLong_3_0 := by decide +kernel
theorem dJ24_toUnsignedLong_3_0 : decode cJ24_toUnsignedLong_3 0 = .ok (.iload_n 0, 1) := dk_26 (dk_at dksJ24_toUnsignedLong_3_0 0 rfl rfl)
theorem dJ24_toUnsignedLong_3_1 : decode cJ24_toUnsignedLong_3 1 = .ok (.i2l, 1) := dk_133 (dk_at dksJ24_toUnsignedLong_3_0 1 rfl rfl)
theorem dJ24_toUnsignedLong_3_2 : decode cJ24_toUnsignedLong_3 2 = .ok (.ldc2_w 808, 3) := dk_20 3 40 (dk_at dksJ24_toUnsignedLong_3_0 2 rfl rfl)
theorem dJ24_toUnsignedLong_3_5 : decode cJ24_toUnsignedLong_3 5 = .ok (.land, 1) := dk_127 (dk_at dksJ24_toUnsignedLong_3_0 5 rfl rfl)
theorem dJ24_toUnsignedLong_3_6 : decode cJ24_toUnsignedLong_3 6 = .ok (.lreturn, 1) := dk_173 (dk_at dksJ24_toUnsignedLong_3_0 6 rfl rfl)
abbrev cJ24_getIntUnaligned : ByteArray := prog_97_method_336_code
def yJ24_getIntUnaligned : MethodName := ⟨RJ24, "getIntUnaligned", "(Ljava/lang/Object;J)I"⟩
def dkwJ24_getIntUnaligned_3 : List UInt8 := [43, 32, 20, 1, 93, 97, 182, 0, 39, 184, 2, 211, 172]
abbrev dktJ24_getIntUnaligned_3 : List UInt8 := dkwJ24_getIntUnaligned_3 ++ []
def dkwJ24_getIntUnaligned_2 : List UInt8 := [43, 32, 182, 0, 39, 42, 43, 32, 10, 97, 182, 0, 39, 42, 43, 32, 20, 0, 203, 97, 182, 0, 39, 42]
abbrev dktJ24_getIntUnaligned_2 : List UInt8 := dkwJ24_getIntUnaligned_2 ++ dktJ24_getIntUnaligned_3
def dkwJ24_getIntUnaligned_1 : List UInt8 := [154, 0, 23, 42, 43, 32, 182, 0, 47, 42, 43, 32, 20, 0, 203, 97, 182, 0, 47, 184, 2, 207, 172, 42]
abbrev dktJ24_getIntUnaligned_1 : List UInt8 := dkwJ24_getIntUnaligned_1 ++ dktJ24_getIntUnaligned_2
def dkwJ24_getIntUnaligned_0 : List UInt8 := [32, 20, 1, 93, 127, 9, 148, 154, 0, 10, 42, 43, 32, 182, 0, 17, 172, 32, 10, 127, 9, 148]
abbrev dktJ24_getIntUnaligned_0 : List UInt8 := dkwJ24_getIntUnaligned_0 ++ dktJ24_getIntUnaligned_1
theorem dksJ24_getIntUnaligned_0 : cJ24_getIntUnaligned.data.toList.drop 0 = dktJ24_getIntUnaligned_0 := by decide +kernel
theorem dksJ24_getIntUnaligned_1 : cJ24_getIntUnaligned.data.toList.drop 22 = dktJ24_getIntUnaligned_1 := dk_seg dksJ24_getIntUnaligned_0 22 rfl rfl
theorem dksJ24_getIntUnaligned_2 : cJ24_getIntUnaligned.data.toList.drop 46 = dktJ24_getIntUnaligned_2 := dk_seg dksJ24_getIntUnaligned_1 24 rfl rfl
theorem dksJ24_getIntUnaligned_3 : cJ24_getIntUnaligned.data.toList.drop 70 = dktJ24_getIntUnaligned_3 := dk_seg dksJ24_getIntUnaligned_2 24 rfl rfl
theorem dJ24_getIntUnaligned_0 : decode cJ24_getIntUnaligned 0 = .ok (.lload_n 2, 1) := dk_32 (dk_at dksJ24_getIntUnaligned_0 0 rfl rfl)
theorem dJ24_getIntUnaligned_1 : decode cJ24_getIntUnaligned 1 = .ok (.ldc2_w 349, 3) := dk_20 1 93 (dk_at dksJ24_getIntUnaligned_0 1 rfl rfl)
theorem dJ24_getIntUnaligned_4 : decode cJ24_getIntUnaligned 4 = .ok (.land, 1) := dk_127 (dk_at dksJ24_getIntUnaligned_0 4 rfl rfl)
theorem dJ24_getIntUnaligned_5 : decode cJ24_getIntUnaligned 5 = .ok (.lconst 0, 1) := dk_9 (dk_at dksJ24_getIntUnaligned_0 5 rfl rfl)
theorem dJ24_getIntUnaligned_6 : decode cJ24_getIntUnaligned 6 = .ok (.lcmp, 1) := dk_148 (dk_at dksJ24_getIntUnaligned_0 6 rfl rfl)
theorem dJ24_getIntUnaligned_7 : decode cJ24_getIntUnaligned 7 = .ok (.ifCond .ne 10, 3) := dk_154 0 10 (dk_at dksJ24_getIntUnaligned_0 7 rfl rfl)
theorem dJ24_getIntUnaligned_10 : decode cJ24_getIntUnaligned 10 = .ok (.aload_n 0, 1) := dk_42 (dk_at dksJ24_getIntUnaligned_0 10 rfl rfl)
theorem dJ24_getIntUnaligned_11 : decode cJ24_getIntUnaligned 11 = .ok (.aload_n 1, 1) := dk_43 (dk_at dksJ24_getIntUnaligned_0 11 rfl rfl)
theorem dJ24_getIntUnaligned_12 : decode cJ24_getIntUnaligned 12 = .ok (.lload_n 2, 1) := dk_32 (dk_at dksJ24_getIntUnaligned_0 12 rfl rfl)
theorem dJ24_getIntUnaligned_13 : decode cJ24_getIntUnaligned 13 = .ok (.invokevirtual 17, 3) := dk_182 0 17 (dk_at dksJ24_getIntUnaligned_0 13 rfl rfl)
theorem dJ24_getIntUnaligned_16 : decode cJ24_getIntUnaligned 16 = .ok (.ireturn, 1) := dk_172 (dk_at dksJ24_getIntUnaligned_0 16 rfl rfl)
theorem dJ24_getIntUnaligned_17 : decode cJ24_getIntUnaligned 17 = .ok (.lload_n 2, 1) := dk_32 (dk_at dksJ24_getIntUnaligned_0 17 rfl rfl)
theorem dJ24_getIntUnaligned_18 : decode cJ24_getIntUnaligned 18 = .ok (.lconst 1, 1) := dk_10 (dk_at dksJ24_getIntUnaligned_0 18 rfl rfl)
theorem dJ24_getIntUnaligned_19 : decode cJ24_getIntUnaligned 19 = .ok (.land, 1) := dk_127 (dk_at dksJ24_getIntUnaligned_0 19 rfl rfl)
theorem dJ24_getIntUnaligned_20 : decode cJ24_getIntUnaligned 20 = .ok (.lconst 0, 1) := dk_9 (dk_at dksJ24_getIntUnaligned_0 20 rfl rfl)
theorem dJ24_getIntUnaligned_21 : decode cJ24_getIntUnaligned 21 = .ok (.lcmp, 1) := dk_148 (dk_at dksJ24_getIntUnaligned_0 21 rfl rfl)
theorem dJ24_getIntUnaligned_22 : decode cJ24_getIntUnaligned 22 = .ok (.ifCond .ne 23, 3) := dk_154 0 23 (dk_at dksJ24_getIntUnaligned_1 0 rfl rfl)
theorem dJ24_getIntUnaligned_25 : decode cJ24_getIntUnaligned 25 = .ok (.aload_n 0, 1) := dk_42 (dk_at dksJ24_getIntUnaligned_1 3 rfl rfl)
theorem dJ24_getIntUnaligned_26 : decode cJ24_getIntUnaligned 26 = .ok (.aload_n 1, 1) := dk_43 (dk_at dksJ24_getIntUnaligned_1 4 rfl rfl)
theorem dJ24_getIntUnaligned_27 : decode cJ24_getIntUnaligned 27 = .ok (.lload_n 2, 1) := dk_32 (dk_at dksJ24_getIntUnaligned_1 5 rfl rfl)
theorem dJ24_getIntUnaligned_28 : decode cJ24_getIntUnaligned 28 = .ok (.invokevirtual 47, 3) := dk_182 0 47 (dk_at dksJ24_getIntUnaligned_1 6 rfl rfl)
theorem dJ24_getIntUnaligned_31 : decode cJ24_getIntUnaligned 31 = .ok (.aload_n 0, 1) := dk_42 (dk_at dksJ24_getIntUnaligned_1 9 rfl rfl)
theorem dJ24_getIntUnaligned_32 : decode cJ24_getIntUnaligned 32 = .ok (.aload_n 1, 1) := dk_43 (dk_at dksJ24_getIntUnaligned_1 10 rfl rfl)
theorem dJ24_getIntUnaligned_33 : decode cJ24_getIntUnaligned 33 = .ok (.lload_n 2, 1) := dk_32 (dk_at dksJ24_getIntUnaligned_1 11 rfl rfl)
theorem dJ24_getIntUnaligned_34 : decode cJ24_getIntUnaligned 34 = .ok (.ldc2_w 203, 3) := dk_20 0 203 (dk_at dksJ24_getIntUnaligned_1 12 rfl rfl)
theorem dJ24_getIntUnaligned_37 : decode cJ24_getIntUnaligned 37 = .ok (.ladd, 1) := dk_97 (dk_at dksJ24_getIntUnaligned_1 15 rfl rfl)
theorem dJ24_getIntUnaligned_38 : decode cJ24_getIntUnaligned 38 = .ok (.invokevirtual 47, 3) := dk_182 0 47 (dk_at dksJ24_getIntUnaligned_1 16 rfl rfl)
theorem dJ24_getIntUnaligned_41 : decode cJ24_getIntUnaligned 41 = .ok (.invokestatic 719, 3) := dk_184 2 207 (dk_at dksJ24_getIntUnaligned_1 19 rfl rfl)
theorem dJ24_getIntUnaligned_44 : decode cJ24_getIntUnaligned 44 = .ok (.ireturn, 1) := dk_172 (dk_at dksJ24_getIntUnaligned_1 22 rfl rfl)
theorem dJ24_getIntUnaligned_45 : decode cJ24_getIntUnaligned 45 = .ok (.aload_n 0, 1) := dk_42 (dk_at dksJ24_getIntUnaligned_1 23 rfl rfl)
theorem dJ24_getIntUnaligned_46 : decode cJ24_getIntUnaligned 46 = .ok (.aload_n 1, 1) := dk_43 (dk_at dksJ24_getIntUnaligned_2 0 rfl rfl)
theorem dJ24_getIntUnaligned_47 : decode cJ24_getIntUnaligned 47 = .ok (.lload_n 2, 1) := dk_32 (dk_at dksJ24_getIntUnaligned_2 1 rfl rfl)
theorem dJ24_getIntUnaligned_48 : decode cJ24_getIntUnaligned 48 = .ok (.invokevirtual 39, 3) := dk_182 0 39 (dk_at dksJ24_getIntUnaligned_2 2 rfl rfl)
theorem dJ24_getIntUnaligned_51 : decode cJ24_getIntUnaligned 51 = .ok (.aload_n 0, 1) := dk_42 (dk_at dksJ24_getIntUnaligned_2 5 rfl rfl)
theorem dJ24_getIntUnaligned_52 : decode cJ24_getIntUnaligned 52 = .ok (.aload_n 1, 1) := dk_43 (dk_at dksJ24_getIntUnaligned_2 6 rfl rfl)
theorem dJ24_getIntUnaligned_53 : decode cJ24_getIntUnaligned 53 = .ok (.lload_n 2, 1) := dk_32 (dk_at dksJ24_getIntUnaligned_2 7 rfl rfl)
theorem dJ24_getIntUnaligned_54 : decode cJ24_getIntUnaligned 54 = .ok (.lconst 1, 1) := dk_10 (dk_at dksJ24_getIntUnaligned_2 8 rfl rfl)
theorem dJ24_getIntUnaligned_55 : decode cJ24_getIntUnaligned 55 = .ok (.ladd, 1) := dk_97 (dk_at dksJ24_getIntUnaligned_2 9 rfl rfl)
theorem dJ24_getIntUnaligned_56 : decode cJ24_getIntUnaligned 56 = .ok (.invokevirtual 39, 3) := dk_182 0 39 (dk_at dksJ24_getIntUnaligned_2 10 rfl rfl)
theorem dJ24_getIntUnaligned_59 : decode cJ24_getIntUnaligned 59 = .ok (.aload_n 0, 1) := dk_42 (dk_at dksJ24_getIntUnaligned_2 13 rfl rfl)
theorem dJ24_getIntUnaligned_60 : decode cJ24_getIntUnaligned 60 = .ok (.aload_n 1, 1) := dk_43 (dk_at dksJ24_getIntUnaligned_2 14 rfl rfl)
theorem dJ24_getIntUnaligned_61 : decode cJ24_getIntUnaligned 61 = .ok (.lload_n 2, 1) := dk_32 (dk_at dksJ24_getIntUnaligned_2 15 rfl rfl)
theorem dJ24_getIntUnaligned_62 : decode cJ24_getIntUnaligned 62 = .ok (.ldc2_w 203, 3) := dk_20 0 203 (dk_at dksJ24_getIntUnaligned_2 16 rfl rfl)
theorem dJ24_getIntUnaligned_65 : decode cJ24_getIntUnaligned 65 = .ok (.ladd, 1) := dk_97 (dk_at dksJ24_getIntUnaligned_2 19 rfl rfl)
theorem dJ24_getIntUnaligned_66 : decode cJ24_getIntUnaligned 66 = .ok (.invokevirtual 39, 3) := dk_182 0 39 (dk_at dksJ24_getIntUnaligned_2 20 rfl rfl)
theorem dJ24_getIntUnaligned_69 : decode cJ24_getIntUnaligned 69 = .ok (.aload_n 0, 1) := dk_42 (dk_at dksJ24_getIntUnaligned_2 23 rfl rfl)
theorem dJ24_getIntUnaligned_70 : decode cJ24_getIntUnaligned 70 = .ok (.aload_n 1, 1) := dk_43 (dk_at dksJ24_getIntUnaligned_3 0 rfl rfl)
theorem dJ24_getIntUnaligned_71 : decode cJ24_getIntUnaligned 71 = .ok (.lload_n 2, 1) := dk_32 (dk_at dksJ24_getIntUnaligned_3 1 rfl rfl)
theorem dJ24_getIntUnaligned_72 : decode cJ24_getIntUnaligned 72 = .ok (.ldc2_w 349, 3) := dk_20 1 93 (dk_at dksJ24_getIntUnaligned_3 2 rfl rfl)
theorem dJ24_getIntUnaligned_75 : decode cJ24_getIntUnaligned 75 = .ok (.ladd, 1) := dk_97 (dk_at dksJ24_getIntUnaligned_3 5 rfl rfl)
theorem dJ24_getIntUnaligned_76 : decode cJ24_getIntUnaligned 76 = .ok (.invokevirtual 39, 3) := dk_182 0 39 (dk_at dksJ24_getIntUnaligned_3 6 rfl rfl)
theorem dJ24_getIntUnaligned_79 : decode cJ24_getIntUnaligned 79 = .ok (.invokestatic 723, 3) := dk_184 2 211 (dk_at dksJ24_getIntUnaligned_3 9 rfl rfl)
theorem dJ24_getIntUnaligned_82 : decode cJ24_getIntUnaligned 82 = .ok (.ireturn, 1) := dk_172 (dk_at dksJ24_getIntUnaligned_3 12 rfl rfl)
abbrev cJ24_makeInt : ByteArray := prog_97_method_354_code
def yJ24_makeInt : MethodName := ⟨RJ24, "makeInt", "(SS)I"⟩
def dkwJ24_makeInt_1 : List UInt8 := [172]
abbrev dktJ24_makeInt_1 : List UInt8 := dkwJ24_makeInt_1 ++ []
def dkwJ24_makeInt_0 : List UInt8 := [26, 184, 3, 24, 16, 16, 3, 184, 3, 16, 120, 27, 184, 3, 24, 16, 16, 16, 16, 184, 3, 16, 120, 128]
abbrev dktJ24_makeInt_0 : List UInt8 := dkwJ24_makeInt_0 ++ dktJ24_makeInt_1
theorem dksJ24_makeInt_0 : cJ24_makeInt.data.toList.drop 0 = dktJ24_makeInt_0 := by decide +kernel
theorem dksJ24_makeInt_1 : cJ24_makeInt.data.toList.drop 24 = dktJ24_makeInt_1 := dk_seg dksJ24_makeInt_0 24 rfl rfl
theorem dJ24_makeInt_0 : decode cJ24_makeInt 0 = .ok (.iload_n 0, 1) := dk_26 (dk_at dksJ24_makeInt_0 0 rfl rfl)
theorem dJ24_makeInt_1 : decode cJ24_makeInt 1 = .ok (.invokestatic 792, 3) := dk_184 3 24 (dk_at dksJ24_makeInt_0 1 rfl rfl)
theorem dJ24_makeInt_4 : decode cJ24_makeInt 4 = .ok (.bipush 16, 2) := dk_16 16 (dk_at dksJ24_makeInt_0 4 rfl rfl)
theorem dJ24_makeInt_6 : decode cJ24_makeInt 6 = .ok (.iconst 0, 1) := dk_3 (dk_at dksJ24_makeInt_0 6 rfl rfl)
theorem dJ24_makeInt_7 : decode cJ24_makeInt 7 = .ok (.invokestatic 784, 3) := dk_184 3 16 (dk_at dksJ24_makeInt_0 7 rfl rfl)
theorem dJ24_makeInt_10 : decode cJ24_makeInt 10 = .ok (.ishl, 1) := dk_120 (dk_at dksJ24_makeInt_0 10 rfl rfl)
theorem dJ24_makeInt_11 : decode cJ24_makeInt 11 = .ok (.iload_n 1, 1) := dk_27 (dk_at dksJ24_makeInt_0 11 rfl rfl)
theorem dJ24_makeInt_12 : decode cJ24_makeInt 12 = .ok (.invokestatic 792, 3) := dk_184 3 24 (dk_at dksJ24_makeInt_0 12 rfl rfl)
theorem dJ24_makeInt_15 : decode cJ24_makeInt 15 = .ok (.bipush 16, 2) := dk_16 16 (dk_at dksJ24_makeInt_0 15 rfl rfl)
theorem dJ24_makeInt_17 : decode cJ24_makeInt 17 = .ok (.bipush 16, 2) := dk_16 16 (dk_at dksJ24_makeInt_0 17 rfl rfl)
theorem dJ24_makeInt_19 : decode cJ24_makeInt 19 = .ok (.invokestatic 784, 3) := dk_184 3 16 (dk_at dksJ24_makeInt_0 19 rfl rfl)
theorem dJ24_makeInt_22 : decode cJ24_makeInt 22 = .ok (.ishl, 1) := dk_120 (dk_at dksJ24_makeInt_0 22 rfl rfl)
theorem dJ24_makeInt_23 : decode cJ24_makeInt 23 = .ok (.ior, 1) := dk_128 (dk_at dksJ24_makeInt_0 23 rfl rfl)
theorem dJ24_makeInt_24 : decode cJ24_makeInt 24 = .ok (.ireturn, 1) := dk_172 (dk_at dksJ24_makeInt_1 0 rfl rfl)
abbrev cJ24_toUnsignedInt : ByteArray := prog_97_method_367_code
def yJ24_toUnsignedInt : MethodName := ⟨RJ24, "toUnsignedInt", "(S)I"⟩
def dkwJ24_toUnsignedInt_0 : List UInt8 := [26, 19, 1, 118, 126, 172]
abbrev dktJ24_toUnsignedInt_0 : List UInt8 := dkwJ24_toUnsignedInt_0 ++ []
theorem dksJ24_toUnsignedInt_0 : cJ24_toUnsignedInt.data.toList.drop 0 = dktJ24_toUnsignedInt_0 := by decide +kernel
theorem dJ24_toUnsignedInt_0 : decode cJ24_toUnsignedInt 0 = .ok (.iload_n 0, 1) := dk_26 (dk_at dksJ24_toUnsignedInt_0 0 rfl rfl)
theorem dJ24_toUnsignedInt_1 : decode cJ24_toUnsignedInt 1 = .ok (.ldc_w 374, 3) := dk_19 1 118 (dk_at dksJ24_toUnsignedInt_0 1 rfl rfl)
theorem dJ24_toUnsignedInt_4 : decode cJ24_toUnsignedInt 4 = .ok (.iand, 1) := dk_126 (dk_at dksJ24_toUnsignedInt_0 4 rfl rfl)
theorem dJ24_toUnsignedInt_5 : decode cJ24_toUnsignedInt 5 = .ok (.ireturn, 1) := dk_172 (dk_at dksJ24_toUnsignedInt_0 5 rfl rfl)
abbrev cJ24_makeInt_2 : ByteArray := prog_97_method_355_code
def yJ24_makeInt_2 : MethodName := ⟨RJ24, "makeInt", "(BBBB)I"⟩
def dkwJ24_makeInt_2_2 : List UInt8 := [120, 128, 172]
abbrev dktJ24_makeInt_2_2 : List UInt8 := dkwJ24_makeInt_2_2 ++ []
def dkwJ24_makeInt_2_1 : List UInt8 := [28, 184, 3, 28, 16, 24, 16, 16, 184, 3, 16, 120, 128, 29, 184, 3, 28, 16, 24, 16, 24, 184, 3, 16]
abbrev dktJ24_makeInt_2_1 : List UInt8 := dkwJ24_makeInt_2_1 ++ dktJ24_makeInt_2_2
def dkwJ24_makeInt_2_0 : List UInt8 := [26, 184, 3, 28, 16, 24, 3, 184, 3, 16, 120, 27, 184, 3, 28, 16, 24, 16, 8, 184, 3, 16, 120, 128]
abbrev dktJ24_makeInt_2_0 : List UInt8 := dkwJ24_makeInt_2_0 ++ dktJ24_makeInt_2_1
theorem dksJ24_makeInt_2_0 : cJ24_makeInt_2.data.toList.drop 0 = dktJ24_makeInt_2_0 := by decide +kernel
theorem dksJ24_makeInt_2_1 : cJ24_makeInt_2.data.toList.drop 24 = dktJ24_makeInt_2_1 := dk_seg dksJ24_makeInt_2_0 24 rfl rfl
theorem dksJ24_makeInt_2_2 : cJ24_makeInt_2.data.toList.drop 48 = dktJ24_makeInt_2_2 := dk_seg dksJ24_makeInt_2_1 24 rfl rfl
theorem dJ24_makeInt_2_0 : decode cJ24_makeInt_2 0 = .ok (.iload_n 0, 1) := dk_26 (dk_at dksJ24_makeInt_2_0 0 rfl rfl)
theorem dJ24_makeInt_2_1 : decode cJ24_makeInt_2 1 = .ok (.invokestatic 796, 3) := dk_184 3 28 (dk_at dksJ24_makeInt_2_0 1 rfl rfl)
theorem dJ24_makeInt_2_4 : decode cJ24_makeInt_2 4 = .ok (.bipush 24, 2) := dk_16 24 (dk_at dksJ24_makeInt_2_0 4 rfl rfl)
theorem dJ24_makeInt_2_6 : decode cJ24_makeInt_2 6 = .ok (.iconst 0, 1) := dk_3 (dk_at dksJ24_makeInt_2_0 6 rfl rfl)
theorem dJ24_makeInt_2_7 : decode cJ24_makeInt_2 7 = .ok (.invokestatic 784, 3) := dk_184 3 16 (dk_at dksJ24_makeInt_2_0 7 rfl rfl)
theorem dJ24_makeInt_2_10 : decode cJ24_makeInt_2 10 = .ok (.ishl, 1) := dk_120 (dk_at dksJ24_makeInt_2_0 10 rfl rfl)
theorem dJ24_makeInt_2_11 : decode cJ24_makeInt_2 11 = .ok (.iload_n 1, 1) := dk_27 (dk_at dksJ24_makeInt_2_0 11 rfl rfl)
theorem dJ24_makeInt_2_12 : decode cJ24_makeInt_2 12 = .ok (.invokestatic 796, 3) := dk_184 3 28 (dk_at dksJ24_makeInt_2_0 12 rfl rfl)
theorem dJ24_makeInt_2_15 : decode cJ24_makeInt_2 15 = .ok (.bipush 24, 2) := dk_16 24 (dk_at dksJ24_makeInt_2_0 15 rfl rfl)
theorem dJ24_makeInt_2_17 : decode cJ24_makeInt_2 17 = .ok (.bipush 8, 2) := dk_16 8 (dk_at dksJ24_makeInt_2_0 17 rfl rfl)
theorem dJ24_makeInt_2_19 : decode cJ24_makeInt_2 19 = .ok (.invokestatic 784, 3) := dk_184 3 16 (dk_at dksJ24_makeInt_2_0 19 rfl rfl)
theorem dJ24_makeInt_2_22 : decode cJ24_makeInt_2 22 = .ok (.ishl, 1) := dk_120 (dk_at dksJ24_makeInt_2_0 22 rfl rfl)
theorem dJ24_makeInt_2_23 : decode cJ24_makeInt_2 23 = .ok (.ior, 1) := dk_128 (dk_at dksJ24_makeInt_2_0 23 rfl rfl)
theorem dJ24_makeInt_2_24 : decode cJ24_makeInt_2 24 = .ok (.iload_n 2, 1) := dk_28 (dk_at dksJ24_makeInt_2_1 0 rfl rfl)
theorem dJ24_makeInt_2_25 : decode cJ24_makeInt_2 25 = .ok (.invokestatic 796, 3) := dk_184 3 28 (dk_at dksJ24_makeInt_2_1 1 rfl rfl)
theorem dJ24_makeInt_2_28 : decode cJ24_makeInt_2 28 = .ok (.bipush 24, 2) := dk_16 24 (dk_at dksJ24_makeInt_2_1 4 rfl rfl)
theorem dJ24_makeInt_2_30 : decode cJ24_makeInt_2 30 = .ok (.bipush 16, 2) := dk_16 16 (dk_at dksJ24_makeInt_2_1 6 rfl rfl)
theorem dJ24_makeInt_2_32 : decode cJ24_makeInt_2 32 = .ok (.invokestatic 784, 3) := dk_184 3 16 (dk_at dksJ24_makeInt_2_1 8 rfl rfl)
theorem dJ24_makeInt_2_35 : decode cJ24_makeInt_2 35 = .ok (.ishl, 1) := dk_120 (dk_at dksJ24_makeInt_2_1 11 rfl rfl)
theorem dJ24_makeInt_2_36 : decode cJ24_makeInt_2 36 = .ok (.ior, 1) := dk_128 (dk_at dksJ24_makeInt_2_1 12 rfl rfl)
theorem dJ24_makeInt_2_37 : decode cJ24_makeInt_2 37 = .ok (.iload_n 3, 1) := dk_29 (dk_at dksJ24_makeInt_2_1 13 rfl rfl)
theorem dJ24_makeInt_2_38 : decode cJ24_makeInt_2 38 = .ok (.invokestatic 796, 3) := dk_184 3 28 (dk_at dksJ24_makeInt_2_1 14 rfl rfl)
theorem dJ24_makeInt_2_41 : decode cJ24_makeInt_2 41 = .ok (.bipush 24, 2) := dk_16 24 (dk_at dksJ24_makeInt_2_1 17 rfl rfl)
theorem dJ24_makeInt_2_43 : decode cJ24_makeInt_2 43 = .ok (.bipush 24, 2) := dk_16 24 (dk_at dksJ24_makeInt_2_1 19 rfl rfl)
theorem dJ24_makeInt_2_45 : decode cJ24_makeInt_2 45 = .ok (.invokestatic 784, 3) := dk_184 3 16 (dk_at dksJ24_makeInt_2_1 21 rfl rfl)
theorem dJ24_makeInt_2_48 : decode cJ24_makeInt_2 48 = .ok (.ishl, 1) := dk_120 (dk_at dksJ24_makeInt_2_2 0 rfl rfl)
theorem dJ24_makeInt_2_49 : decode cJ24_makeInt_2 49 = .ok (.ior, 1) := dk_128 (dk_at dksJ24_makeInt_2_2 1 rfl rfl)
theorem dJ24_makeInt_2_50 : decode cJ24_makeInt_2 50 = .ok (.ireturn, 1) := dk_172 (dk_at dksJ24_makeInt_2_2 2 rfl rfl)
abbrev cJ24_toUnsignedInt_2 : ByteArray := prog_97_method_366_code
def yJ24_toUnsignedInt_2 : MethodName := ⟨RJ24, "toUnsignedInt", "(B)I"⟩
def dkwJ24_toUnsignedInt_2_0 : List UInt8 := [26, 17, 0, 255, 126, 172]
abbrev dktJ24_toUnsignedInt_2_0 : List UInt8 := dkwJ24_toUnsignedInt_2_0 ++ []
theorem dksJ24_toUnsignedInt_2_0 : cJ24_toUnsignedInt_2.data.toList.drop 0 = dktJ24_toUnsignedInt_2_0 := by decide +kernel
theorem dJ24_toUnsignedInt_2_0 : decode cJ24_toUnsignedInt_2 0 = .ok (.iload_n 0, 1) := dk_26 (dk_at dksJ24_toUnsignedInt_2_0 0 rfl rfl)
theorem dJ24_toUnsignedInt_2_1 : decode cJ24_toUnsignedInt_2 1 = .ok (.sipush 255, 3) := dk_17 0 255 (dk_at dksJ24_toUnsignedInt_2_0 1 rfl rfl)
theorem dJ24_toUnsignedInt_2_4 : decode cJ24_toUnsignedInt_2 4 = .ok (.iand, 1) := dk_126 (dk_at dksJ24_toUnsignedInt_2_0 4 rfl rfl)
theorem dJ24_toUnsignedInt_2_5 : decode cJ24_toUnsignedInt_2 5 = .ok (.ireturn, 1) := dk_172 (dk_at dksJ24_toUnsignedInt_2_0 5 rfl rfl)
theorem q136 : (Jvm.Cond.initialized "jdk/internal/misc/Unsafe") ∈ lw_all := lw_g (lw_at lw_m1 37 rfl) rfl
theorem q840 : (Jvm.Cond.selects "jdk/internal/misc/Unsafe" ({ cls := "java/lang/Object", name := "getClass", desc := "()Ljava/lang/Class;" } : Jvm.MethodName) ({ cls := "java/lang/Object", name := "getClass", desc := "()Ljava/lang/Class;" } : Jvm.MethodName)) ∈ lw_all := lw_g (lw_at lw_m4 21 rfl) rfl
theorem q1157 : (Jvm.Cond.selects "jdk/internal/misc/Unsafe" ({ cls := "java/lang/Object", name := "hashCode", desc := "()I" } : Jvm.MethodName) ({ cls := "java/lang/Object", name := "hashCode", desc := "()I" } : Jvm.MethodName)) ∈ lw_all := lw_g (lw_at lw_m5 98 rfl) rfl
theorem q1221 : (Jvm.Cond.selects "jdk/internal/misc/Unsafe" ({ cls := "java/lang/Object", name := "equals", desc := "(Ljava/lang/Object;)Z" } : Jvm.MethodName) ({ cls := "java/lang/Object", name := "equals", desc := "(Ljava/lang/Object;)Z" } : Jvm.MethodName)) ∈ lw_all := lw_g (lw_at lw_m5 162 rfl) rfl
theorem q1386 : (Jvm.Cond.laysStatic "jdk/internal/misc/Unsafe" "ARRAY_BYTE_BASE_OFFSET" "I") ∈ lw_tbl := lw_at lw_m6 87 rfl
theorem q1397 : (Jvm.Cond.instanceMethod ({ cls := "jdk/internal/misc/Unsafe", name := "getLongUnaligned", desc := "(Ljava/lang/Object;J)J" } : Jvm.MethodName)) ∈ lw_all := lw_g (lw_at lw_m6 98 rfl) rfl
theorem q1398 : (Jvm.Cond.selects "jdk/internal/misc/Unsafe" ({ cls := "jdk/internal/misc/Unsafe", name := "getLongUnaligned", desc := "(Ljava/lang/Object;J)J" } : Jvm.MethodName) ({ cls := "jdk/internal/misc/Unsafe", name := "getLongUnaligned", desc := "(Ljava/lang/Object;J)J" } : Jvm.MethodName)) ∈ lw_all := lw_g (lw_at lw_m6 99 rfl) rfl
theorem q1399 : (Jvm.Cond.code ({ cls := "jdk/internal/misc/Unsafe", name := "getLongUnaligned", desc := "(Ljava/lang/Object;J)J" } : Jvm.MethodName) prog_97_method_334_code (4 : Nat) (Option.some Jvm.ClassFile.FieldType.long)) ∈ lw_all := lw_g (lw_at lw_m6 100 rfl) rfl
theorem q1400 : (Jvm.Cond.constantLong "jdk/internal/misc/Unsafe" (696 : Nat) (7 : Int64)) ∈ lw_all := lw_g (lw_at lw_m6 101 rfl) rfl
theorem q1401 : (Jvm.Cond.methodLink "jdk/internal/misc/Unsafe" (27 : Nat) ({ cls := "jdk/internal/misc/Unsafe", name := "getLong", desc := "(Ljava/lang/Object;J)J" } : Jvm.MethodName)) ∈ lw_all := lw_g (lw_at lw_m6 102 rfl) rfl
theorem q1402 : (Jvm.Cond.instanceMethod ({ cls := "jdk/internal/misc/Unsafe", name := "getLong", desc := "(Ljava/lang/Object;J)J" } : Jvm.MethodName)) ∈ lw_all := lw_g (lw_at lw_m6 103 rfl) rfl
theorem q1403 : (Jvm.Cond.selects "jdk/internal/misc/Unsafe" ({ cls := "jdk/internal/misc/Unsafe", name := "getLong", desc := "(Ljava/lang/Object;J)J" } : Jvm.MethodName) ({ cls := "jdk/internal/misc/Unsafe", name := "getLong", desc := "(Ljava/lang/Object;J)J" } : Jvm.MethodName)) ∈ lw_all := lw_g (lw_at lw_m6 104 rfl) rfl
theorem q1404 : (Jvm.Cond.native ({ cls := "jdk/internal/misc/Unsafe", name := "getLong", desc := "(Ljava/lang/Object;J)J" } : Jvm.MethodName)) ∈ lw_all := lw_g (lw_at lw_m6 105 rfl) rfl
theorem q1405 : (Jvm.Cond.constantLong "jdk/internal/misc/Unsafe" (349 : Nat) (3 : Int64)) ∈ lw_all := lw_g (lw_at lw_m6 106 rfl) rfl
theorem q1406 : (Jvm.Cond.methodLink "jdk/internal/misc/Unsafe" (17 : Nat) ({ cls := "jdk/internal/misc/Unsafe", name := "getInt", desc := "(Ljava/lang/Object;J)I" } : Jvm.MethodName)) ∈ lw_all := lw_g (lw_at lw_m6 107 rfl) rfl
theorem q1407 : (Jvm.Cond.instanceMethod ({ cls := "jdk/internal/misc/Unsafe", name := "getInt", desc := "(Ljava/lang/Object;J)I" } : Jvm.MethodName)) ∈ lw_all := lw_g (lw_at lw_m6 108 rfl) rfl
theorem q1408 : (Jvm.Cond.selects "jdk/internal/misc/Unsafe" ({ cls := "jdk/internal/misc/Unsafe", name := "getInt", desc := "(Ljava/lang/Object;J)I" } : Jvm.MethodName) ({ cls := "jdk/internal/misc/Unsafe", name := "getInt", desc := "(Ljava/lang/Object;J)I" } : Jvm.MethodName)) ∈ lw_all := lw_g (lw_at lw_m6 109 rfl) rfl
theorem q1409 : (Jvm.Cond.native ({ cls := "jdk/internal/misc/Unsafe", name := "getInt", desc := "(Ljava/lang/Object;J)I" } : Jvm.MethodName)) ∈ lw_all := lw_g (lw_at lw_m6 110 rfl) rfl
theorem q1410 : (Jvm.Cond.constantLong "jdk/internal/misc/Unsafe" (205 : Nat) (4 : Int64)) ∈ lw_all := lw_g (lw_at lw_m6 111 rfl) rfl
theorem q1411 : (Jvm.Cond.methodLink "jdk/internal/misc/Unsafe" (698 : Nat) ({ cls := "jdk/internal/misc/Unsafe", name := "makeLong", desc := "(II)J" } : Jvm.MethodName)) ∈ lw_all := lw_g (lw_at lw_m6 112 rfl) rfl
theorem q1412 : (Jvm.Cond.static ({ cls := "jdk/internal/misc/Unsafe", name := "makeLong", desc := "(II)J" } : Jvm.MethodName)) ∈ lw_all := lw_g (lw_at lw_m6 113 rfl) rfl
theorem q1413 : (Jvm.Cond.code ({ cls := "jdk/internal/misc/Unsafe", name := "makeLong", desc := "(II)J" } : Jvm.MethodName) prog_97_method_353_code (2 : Nat) (Option.some Jvm.ClassFile.FieldType.long)) ∈ lw_all := lw_g (lw_at lw_m6 114 rfl) rfl
theorem q1414 : (Jvm.Cond.methodLink "jdk/internal/misc/Unsafe" (791 : Nat) ({ cls := "jdk/internal/misc/Unsafe", name := "toUnsignedLong", desc := "(I)J" } : Jvm.MethodName)) ∈ lw_all := lw_g (lw_at lw_m6 115 rfl) rfl
theorem q1415 : (Jvm.Cond.static ({ cls := "jdk/internal/misc/Unsafe", name := "toUnsignedLong", desc := "(I)J" } : Jvm.MethodName)) ∈ lw_all := lw_g (lw_at lw_m6 116 rfl) rfl
theorem q1416 : (Jvm.Cond.code ({ cls := "jdk/internal/misc/Unsafe", name := "toUnsignedLong", desc := "(I)J" } : Jvm.MethodName) prog_97_method_370_code (1 : Nat) (Option.some Jvm.ClassFile.FieldType.long)) ∈ lw_all := lw_g (lw_at lw_m6 117 rfl) rfl
theorem q1417 : (Jvm.Cond.constantLong "jdk/internal/misc/Unsafe" (812 : Nat) (4294967295 : Int64)) ∈ lw_all := lw_g (lw_at lw_m6 118 rfl) rfl
theorem q1418 : (Jvm.Cond.methodLink "jdk/internal/misc/Unsafe" (784 : Nat) ({ cls := "jdk/internal/misc/Unsafe", name := "pickPos", desc := "(II)I" } : Jvm.MethodName)) ∈ lw_all := lw_g (lw_at lw_m6 119 rfl) rfl
theorem q1419 : (Jvm.Cond.static ({ cls := "jdk/internal/misc/Unsafe", name := "pickPos", desc := "(II)I" } : Jvm.MethodName)) ∈ lw_all := lw_g (lw_at lw_m6 120 rfl) rfl
theorem q1420 : (Jvm.Cond.code ({ cls := "jdk/internal/misc/Unsafe", name := "pickPos", desc := "(II)I" } : Jvm.MethodName) prog_97_method_350_code (2 : Nat) (Option.some Jvm.ClassFile.FieldType.int)) ∈ lw_all := lw_g (lw_at lw_m6 121 rfl) rfl
theorem q1421 : (Jvm.Cond.fieldLink "jdk/internal/misc/Unsafe" (351 : Nat) "jdk/internal/misc/UnsafeConstants" "BIG_ENDIAN" "Z") ∈ lw_all := lw_g (lw_at lw_m6 122 rfl) rfl
theorem q1423 : (Jvm.Cond.methodLink "jdk/internal/misc/Unsafe" (47 : Nat) ({ cls := "jdk/internal/misc/Unsafe", name := "getShort", desc := "(Ljava/lang/Object;J)S" } : Jvm.MethodName)) ∈ lw_all := lw_g (lw_at lw_m6 124 rfl) rfl
theorem q1424 : (Jvm.Cond.instanceMethod ({ cls := "jdk/internal/misc/Unsafe", name := "getShort", desc := "(Ljava/lang/Object;J)S" } : Jvm.MethodName)) ∈ lw_all := lw_g (lw_at lw_m6 125 rfl) rfl
theorem q1425 : (Jvm.Cond.selects "jdk/internal/misc/Unsafe" ({ cls := "jdk/internal/misc/Unsafe", name := "getShort", desc := "(Ljava/lang/Object;J)S" } : Jvm.MethodName) ({ cls := "jdk/internal/misc/Unsafe", name := "getShort", desc := "(Ljava/lang/Object;J)S" } : Jvm.MethodName)) ∈ lw_all := lw_g (lw_at lw_m6 126 rfl) rfl
theorem q1426 : (Jvm.Cond.native ({ cls := "jdk/internal/misc/Unsafe", name := "getShort", desc := "(Ljava/lang/Object;J)S" } : Jvm.MethodName)) ∈ lw_all := lw_g (lw_at lw_m6 127 rfl) rfl
theorem q1427 : (Jvm.Cond.constantLong "jdk/internal/misc/Unsafe" (203 : Nat) (2 : Int64)) ∈ lw_all := lw_g (lw_at lw_m6 128 rfl) rfl
theorem q1428 : (Jvm.Cond.constantLong "jdk/internal/misc/Unsafe" (702 : Nat) (6 : Int64)) ∈ lw_all := lw_g (lw_at lw_m6 129 rfl) rfl
theorem q1429 : (Jvm.Cond.methodLink "jdk/internal/misc/Unsafe" (704 : Nat) ({ cls := "jdk/internal/misc/Unsafe", name := "makeLong", desc := "(SSSS)J" } : Jvm.MethodName)) ∈ lw_all := lw_g (lw_at lw_m6 130 rfl) rfl
theorem q1430 : (Jvm.Cond.static ({ cls := "jdk/internal/misc/Unsafe", name := "makeLong", desc := "(SSSS)J" } : Jvm.MethodName)) ∈ lw_all := lw_g (lw_at lw_m6 131 rfl) rfl
theorem q1431 : (Jvm.Cond.code ({ cls := "jdk/internal/misc/Unsafe", name := "makeLong", desc := "(SSSS)J" } : Jvm.MethodName) prog_97_method_352_code (4 : Nat) (Option.some Jvm.ClassFile.FieldType.long)) ∈ lw_all := lw_g (lw_at lw_m6 132 rfl) rfl
theorem q1432 : (Jvm.Cond.methodLink "jdk/internal/misc/Unsafe" (788 : Nat) ({ cls := "jdk/internal/misc/Unsafe", name := "toUnsignedLong", desc := "(S)J" } : Jvm.MethodName)) ∈ lw_all := lw_g (lw_at lw_m6 133 rfl) rfl
theorem q1433 : (Jvm.Cond.static ({ cls := "jdk/internal/misc/Unsafe", name := "toUnsignedLong", desc := "(S)J" } : Jvm.MethodName)) ∈ lw_all := lw_g (lw_at lw_m6 134 rfl) rfl
theorem q1434 : (Jvm.Cond.code ({ cls := "jdk/internal/misc/Unsafe", name := "toUnsignedLong", desc := "(S)J" } : Jvm.MethodName) prog_97_method_369_code (1 : Nat) (Option.some Jvm.ClassFile.FieldType.long)) ∈ lw_all := lw_g (lw_at lw_m6 135 rfl) rfl
theorem q1435 : (Jvm.Cond.constantLong "jdk/internal/misc/Unsafe" (810 : Nat) (65535 : Int64)) ∈ lw_all := lw_g (lw_at lw_m6 136 rfl) rfl
theorem q1436 : (Jvm.Cond.methodLink "jdk/internal/misc/Unsafe" (39 : Nat) ({ cls := "jdk/internal/misc/Unsafe", name := "getByte", desc := "(Ljava/lang/Object;J)B" } : Jvm.MethodName)) ∈ lw_all := lw_g (lw_at lw_m6 137 rfl) rfl
theorem q1437 : (Jvm.Cond.instanceMethod ({ cls := "jdk/internal/misc/Unsafe", name := "getByte", desc := "(Ljava/lang/Object;J)B" } : Jvm.MethodName)) ∈ lw_all := lw_g (lw_at lw_m6 138 rfl) rfl
theorem q1438 : (Jvm.Cond.selects "jdk/internal/misc/Unsafe" ({ cls := "jdk/internal/misc/Unsafe", name := "getByte", desc := "(Ljava/lang/Object;J)B" } : Jvm.MethodName) ({ cls := "jdk/internal/misc/Unsafe", name := "getByte", desc := "(Ljava/lang/Object;J)B" } : Jvm.MethodName)) ∈ lw_all := lw_g (lw_at lw_m6 139 rfl) rfl
theorem q1439 : (Jvm.Cond.native ({ cls := "jdk/internal/misc/Unsafe", name := "getByte", desc := "(Ljava/lang/Object;J)B" } : Jvm.MethodName)) ∈ lw_all := lw_g (lw_at lw_m6 140 rfl) rfl
theorem q1440 : (Jvm.Cond.constantLong "jdk/internal/misc/Unsafe" (707 : Nat) (5 : Int64)) ∈ lw_all := lw_g (lw_at lw_m6 141 rfl) rfl
theorem q1441 : (Jvm.Cond.methodLink "jdk/internal/misc/Unsafe" (709 : Nat) ({ cls := "jdk/internal/misc/Unsafe", name := "makeLong", desc := "(BBBBBBBB)J" } : Jvm.MethodName)) ∈ lw_all := lw_g (lw_at lw_m6 142 rfl) rfl
theorem q1442 : (Jvm.Cond.static ({ cls := "jdk/internal/misc/Unsafe", name := "makeLong", desc := "(BBBBBBBB)J" } : Jvm.MethodName)) ∈ lw_all := lw_g (lw_at lw_m6 143 rfl) rfl
theorem q1443 : (Jvm.Cond.code ({ cls := "jdk/internal/misc/Unsafe", name := "makeLong", desc := "(BBBBBBBB)J" } : Jvm.MethodName) prog_97_method_351_code (8 : Nat) (Option.some Jvm.ClassFile.FieldType.long)) ∈ lw_all := lw_g (lw_at lw_m6 144 rfl) rfl
theorem q1444 : (Jvm.Cond.methodLink "jdk/internal/misc/Unsafe" (781 : Nat) ({ cls := "jdk/internal/misc/Unsafe", name := "toUnsignedLong", desc := "(B)J" } : Jvm.MethodName)) ∈ lw_all := lw_g (lw_at lw_m6 145 rfl) rfl
theorem q1445 : (Jvm.Cond.static ({ cls := "jdk/internal/misc/Unsafe", name := "toUnsignedLong", desc := "(B)J" } : Jvm.MethodName)) ∈ lw_all := lw_g (lw_at lw_m6 146 rfl) rfl
theorem q1446 : (Jvm.Cond.code ({ cls := "jdk/internal/misc/Unsafe", name := "toUnsignedLong", desc := "(B)J" } : Jvm.MethodName) prog_97_method_368_code (1 : Nat) (Option.some Jvm.ClassFile.FieldType.long)) ∈ lw_all := lw_g (lw_at lw_m6 147 rfl) rfl
theorem q1447 : (Jvm.Cond.constantLong "jdk/internal/misc/Unsafe" (808 : Nat) (255 : Int64)) ∈ lw_all := lw_g (lw_at lw_m6 148 rfl) rfl
theorem q1468 : (Jvm.Cond.instanceMethod ({ cls := "jdk/internal/misc/Unsafe", name := "getIntUnaligned", desc := "(Ljava/lang/Object;J)I" } : Jvm.MethodName)) ∈ lw_all := lw_g (lw_at lw_m6 169 rfl) rfl
theorem q1469 : (Jvm.Cond.selects "jdk/internal/misc/Unsafe" ({ cls := "jdk/internal/misc/Unsafe", name := "getIntUnaligned", desc := "(Ljava/lang/Object;J)I" } : Jvm.MethodName) ({ cls := "jdk/internal/misc/Unsafe", name := "getIntUnaligned", desc := "(Ljava/lang/Object;J)I" } : Jvm.MethodName)) ∈ lw_all := lw_g (lw_at lw_m6 170 rfl) rfl
theorem q1470 : (Jvm.Cond.code ({ cls := "jdk/internal/misc/Unsafe", name := "getIntUnaligned", desc := "(Ljava/lang/Object;J)I" } : Jvm.MethodName) prog_97_method_336_code (4 : Nat) (Option.some Jvm.ClassFile.FieldType.int)) ∈ lw_all := lw_g (lw_at lw_m6 171 rfl) rfl
theorem q1471 : (Jvm.Cond.methodLink "jdk/internal/misc/Unsafe" (719 : Nat) ({ cls := "jdk/internal/misc/Unsafe", name := "makeInt", desc := "(SS)I" } : Jvm.MethodName)) ∈ lw_all := lw_g (lw_at lw_m6 172 rfl) rfl
theorem q1472 : (Jvm.Cond.static ({ cls := "jdk/internal/misc/Unsafe", name := "makeInt", desc := "(SS)I" } : Jvm.MethodName)) ∈ lw_all := lw_g (lw_at lw_m6 173 rfl) rfl
theorem q1473 : (Jvm.Cond.code ({ cls := "jdk/internal/misc/Unsafe", name := "makeInt", desc := "(SS)I" } : Jvm.MethodName) prog_97_method_354_code (2 : Nat) (Option.some Jvm.ClassFile.FieldType.int)) ∈ lw_all := lw_g (lw_at lw_m6 174 rfl) rfl
theorem q1474 : (Jvm.Cond.methodLink "jdk/internal/misc/Unsafe" (792 : Nat) ({ cls := "jdk/internal/misc/Unsafe", name := "toUnsignedInt", desc := "(S)I" } : Jvm.MethodName)) ∈ lw_all := lw_g (lw_at lw_m6 175 rfl) rfl
theorem q1475 : (Jvm.Cond.static ({ cls := "jdk/internal/misc/Unsafe", name := "toUnsignedInt", desc := "(S)I" } : Jvm.MethodName)) ∈ lw_all := lw_g (lw_at lw_m6 176 rfl) rfl
theorem q1476 : (Jvm.Cond.code ({ cls := "jdk/internal/misc/Unsafe", name := "toUnsignedInt", desc := "(S)I" } : Jvm.MethodName) prog_97_method_367_code (1 : Nat) (Option.some Jvm.ClassFile.FieldType.int)) ∈ lw_all := lw_g (lw_at lw_m6 177 rfl) rfl
theorem q1477 : (Jvm.Cond.constant "jdk/internal/misc/Unsafe" (374 : Nat) (65535 : Int32)) ∈ lw_all := lw_g (lw_at lw_m6 178 rfl) rfl
theorem q1478 : (Jvm.Cond.methodLink "jdk/internal/misc/Unsafe" (723 : Nat) ({ cls := "jdk/internal/misc/Unsafe", name := "makeInt", desc := "(BBBB)I" } : Jvm.MethodName)) ∈ lw_all := lw_g (lw_at lw_m6 179 rfl) rfl
theorem q1479 : (Jvm.Cond.static ({ cls := "jdk/internal/misc/Unsafe", name := "makeInt", desc := "(BBBB)I" } : Jvm.MethodName)) ∈ lw_all := lw_g (lw_at lw_m6 180 rfl) rfl
theorem q1480 : (Jvm.Cond.code ({ cls := "jdk/internal/misc/Unsafe", name := "makeInt", desc := "(BBBB)I" } : Jvm.MethodName) prog_97_method_355_code (4 : Nat) (Option.some Jvm.ClassFile.FieldType.int)) ∈ lw_all := lw_g (lw_at lw_m6 181 rfl) rfl
theorem q1481 : (Jvm.Cond.methodLink "jdk/internal/misc/Unsafe" (796 : Nat) ({ cls := "jdk/internal/misc/Unsafe", name := "toUnsignedInt", desc := "(B)I" } : Jvm.MethodName)) ∈ lw_all := lw_g (lw_at lw_m6 182 rfl) rfl
theorem q1482 : (Jvm.Cond.static ({ cls := "jdk/internal/misc/Unsafe", name := "toUnsignedInt", desc := "(B)I" } : Jvm.MethodName)) ∈ lw_all := lw_g (lw_at lw_m6 183 rfl) rfl
theorem q1483 : (Jvm.Cond.code ({ cls := "jdk/internal/misc/Unsafe", name := "toUnsignedInt", desc := "(B)I" } : Jvm.MethodName) prog_97_method_366_code (1 : Nat) (Option.some Jvm.ClassFile.FieldType.int)) ∈ lw_all := lw_g (lw_at lw_m6 184 rfl) rfl
theorem q3419 : (Jvm.Cond.castable "jdk/internal/misc/Unsafe" "java/lang/Object") ∈ lw_tbl := lw_at lw_m14 200 rfl
/-! java/lang/Long -/
def RJ25 : String := "java/lang/Long"
abbrev cJ25_numberOfLeadingZeros : ByteArray := prog_64_method_48_code
def yJ25_numberOfLeadingZeros : MethodName := ⟨RJ25, "numberOfLeadingZeros", "(J)I"⟩
def dkwJ25_numberOfLeadingZeros_1 : List UInt8 := [184, 1, 52, 172]
abbrev dktJ25_numberOfLeadingZeros_1 : List UInt8 := dkwJ25_numberOfLeadingZeros_1 ++ []
def dkwJ25_numberOfLeadingZeros_0 : List UInt8 := [30, 16, 32, 125, 136, 61, 28, 154, 0, 14, 16, 32, 30, 136, 184, 1, 52, 96, 167, 0, 7, 28]
abbrev dktJ25_numberOfLeadingZeros_0 : List UInt8 := dkwJ25_numberOfLeadingZeros_0 ++ dktJ25_numberOfLeadingZeros_1
theorem dksJ25_numberOfLeadingZeros_0 : cJ25_numberOfLeadingZeros.data.toList.drop 0 = dktJ25_numberOfLeadingZeros_0 := by decide +kernel
theorem dksJ25_numberOfLeadingZeros_1 : cJ25_numberOfLeadingZeros.data.toList.drop 22 = dktJ25_numberOfLeadingZeros_1 := dk_seg dksJ25_numberOfLeadingZeros_0 22 rfl rfl
theorem dJ25_numberOfLeadingZeros_0 : decode cJ25_numberOfLeadingZeros 0 = .ok (.lload_n 0, 1) := dk_30 (dk_at dksJ25_numberOfLeadingZeros_0 0 rfl rfl)
theorem dJ25_numberOfLeadingZeros_1 : decode cJ25_numberOfLeadingZeros 1 = .ok (.bipush 32, 2) := dk_16 32 (dk_at dksJ25_numberOfLeadingZeros_0 1 rfl rfl)
theorem dJ25_numberOfLeadingZeros_3 : decode cJ25_numberOfLeadingZeros 3 = .ok (.lushr, 1) := dk_125 (dk_at dksJ25_numberOfLeadingZeros_0 3 rfl rfl)
theorem dJ25_numberOfLeadingZeros_4 : decode cJ25_numberOfLeadingZeros 4 = .ok (.l2i, 1) := dk_136 (dk_at dksJ25_numberOfLeadingZeros_0 4 rfl rfl)
theorem dJ25_numberOfLeadingZeros_5 : decode cJ25_numberOfLeadingZeros 5 = .ok (.istore_n 2, 1) := dk_61 (dk_at dksJ25_numberOfLeadingZeros_0 5 rfl rfl)
theorem dJ25_numberOfLeadingZeros_6 : decode cJ25_numberOfLeadingZeros 6 = .ok (.iload_n 2, 1) := dk_28 (dk_at dksJ25_numberOfLeadingZeros_0 6 rfl rfl)
theorem dJ25_numberOfLeadingZeros_7 : decode cJ25_numberOfLeadingZeros 7 = .ok (.ifCond .ne 14, 3) := dk_154 0 14 (dk_at dksJ25_numberOfLeadingZeros_0 7 rfl rfl)
theorem dJ25_numberOfLeadingZeros_10 : decode cJ25_numberOfLeadingZeros 10 = .ok (.bipush 32, 2) := dk_16 32 (dk_at dksJ25_numberOfLeadingZeros_0 10 rfl rfl)
theorem dJ25_numberOfLeadingZeros_12 : decode cJ25_numberOfLeadingZeros 12 = .ok (.lload_n 0, 1) := dk_30 (dk_at dksJ25_numberOfLeadingZeros_0 12 rfl rfl)
theorem dJ25_numberOfLeadingZeros_13 : decode cJ25_numberOfLeadingZeros 13 = .ok (.l2i, 1) := dk_136 (dk_at dksJ25_numberOfLeadingZeros_0 13 rfl rfl)
theorem dJ25_numberOfLeadingZeros_14 : decode cJ25_numberOfLeadingZeros 14 = .ok (.invokestatic 308, 3) := dk_184 1 52 (dk_at dksJ25_numberOfLeadingZeros_0 14 rfl rfl)
theorem dJ25_numberOfLeadingZeros_17 : decode cJ25_numberOfLeadingZeros 17 = .ok (.iadd, 1) := dk_96 (dk_at dksJ25_numberOfLeadingZeros_0 17 rfl rfl)
theorem dJ25_numberOfLeadingZeros_18 : decode cJ25_numberOfLeadingZeros 18 = .ok (.goto 7, 3) := dk_167 0 7 (dk_at dksJ25_numberOfLeadingZeros_0 18 rfl rfl)
theorem dJ25_numberOfLeadingZeros_21 : decode cJ25_numberOfLeadingZeros 21 = .ok (.iload_n 2, 1) := dk_28 (dk_at dksJ25_numberOfLeadingZeros_0 21 rfl rfl)
theorem dJ25_numberOfLeadingZeros_22 : decode cJ25_numberOfLeadingZeros 22 = .ok (.invokestatic 308, 3) := dk_184 1 52 (dk_at dksJ25_numberOfLeadingZeros_1 0 rfl rfl)
theorem dJ25_numberOfLeadingZeros_25 : decode cJ25_numberOfLeadingZeros 25 = .ok (.ireturn, 1) := dk_172 (dk_at dksJ25_numberOfLeadingZeros_1 3 rfl rfl)
abbrev cJ25_numberOfTrailingZeros : ByteArray := prog_64_method_49_code
def yJ25_numberOfTrailingZeros : MethodName := ⟨RJ25, "numberOfTrailingZeros", "(J)I"⟩
def dkwJ25_numberOfTrailingZeros_1 : List UInt8 := [184, 1, 55, 172]
abbrev dktJ25_numberOfTrailingZeros_1 : List UInt8 := dkwJ25_numberOfTrailingZeros_1 ++ []
def dkwJ25_numberOfTrailingZeros_0 : List UInt8 := [30, 136, 61, 28, 154, 0, 17, 16, 32, 30, 16, 32, 125, 136, 184, 1, 55, 96, 167, 0, 7, 28]
abbrev dktJ25_numberOfTrailingZeros_0 : List UInt8 := dkwJ25_numberOfTrailingZeros_0 ++ dktJ25_numberOfTrailingZeros_1
theorem dksJ25_numberOfTrailingZeros_0 : cJ25_numberOfTrailingZeros.data.toList.drop 0 = dktJ25_numberOfTrailingZeros_0 := by decide +kernel
theorem dksJ25_numberOfTrailingZeros_1 : cJ25_numberOfTrailingZeros.data.toList.drop 22 = dktJ25_numberOfTrailingZeros_1 := dk_seg dksJ25_numberOfTrailingZeros_0 22 rfl rfl
theorem dJ25_numberOfTrailingZeros_0 : decode cJ25_numberOfTrailingZeros 0 = .ok (.lload_n 0, 1) := dk_30 (dk_at dksJ25_numberOfTrailingZeros_0 0 rfl rfl)
theorem dJ25_numberOfTrailingZeros_1 : decode cJ25_numberOfTrailingZeros 1 = .ok (.l2i, 1) := dk_136 (dk_at dksJ25_numberOfTrailingZeros_0 1 rfl rfl)
theorem dJ25_numberOfTrailingZeros_2 : decode cJ25_numberOfTrailingZeros 2 = .ok (.istore_n 2, 1) := dk_61 (dk_at dksJ25_numberOfTrailingZeros_0 2 rfl rfl)
theorem dJ25_numberOfTrailingZeros_3 : decode cJ25_numberOfTrailingZeros 3 = .ok (.iload_n 2, 1) := dk_28 (dk_at dksJ25_numberOfTrailingZeros_0 3 rfl rfl)
theorem dJ25_numberOfTrailingZeros_4 : decode cJ25_numberOfTrailingZeros 4 = .ok (.ifCond .ne 17, 3) := dk_154 0 17 (dk_at dksJ25_numberOfTrailingZeros_0 4 rfl rfl)
theorem dJ25_numberOfTrailingZeros_7 : decode cJ25_numberOfTrailingZeros 7 = .ok (.bipush 32, 2) := dk_16 32 (dk_at dksJ25_numberOfTrailingZeros_0 7 rfl rfl)
theorem dJ25_numberOfTrailingZeros_9 : decode cJ25_numberOfTrailingZeros 9 = .ok (.lload_n 0, 1) := dk_30 (dk_at dksJ25_numberOfTrailingZeros_0 9 rfl rfl)
theorem dJ25_numberOfTrailingZeros_10 : decode cJ25_numberOfTrailingZeros 10 = .ok (.bipush 32, 2) := dk_16 32 (dk_at dksJ25_numberOfTrailingZeros_0 10 rfl rfl)
theorem dJ25_numberOfTrailingZeros_12 : decode cJ25_numberOfTrailingZeros 12 = .ok (.lushr, 1) := dk_125 (dk_at dksJ25_numberOfTrailingZeros_0 12 rfl rfl)
theorem dJ25_numberOfTrailingZeros_13 : decode cJ25_numberOfTrailingZeros 13 = .ok (.l2i, 1) := dk_136 (dk_at dksJ25_numberOfTrailingZeros_0 13 rfl rfl)
theorem dJ25_numberOfTrailingZeros_14 : decode cJ25_numberOfTrailingZeros 14 = .ok (.invokestatic 311, 3) := dk_184 1 55 (dk_at dksJ25_numberOfTrailingZeros_0 14 rfl rfl)
theorem dJ25_numberOfTrailingZeros_17 : decode cJ25_numberOfTrailingZeros 17 = .ok (.iadd, 1) := dk_96 (dk_at dksJ25_numberOfTrailingZeros_0 17 rfl rfl)
theorem dJ25_numberOfTrailingZeros_18 : decode cJ25_numberOfTrailingZeros 18 = .ok (.goto 7, 3) := dk_167 0 7 (dk_at dksJ25_numberOfTrailingZeros_0 18 rfl rfl)
theorem dJ25_numberOfTrailingZeros_21 : decode cJ25_numberOfTrailingZeros 21 = .ok (.iload_n 2, 1) := dk_28 (dk_at dksJ25_numberOfTrailingZeros_0 21 rfl rfl)
theorem dJ25_numberOfTrailingZeros_22 : decode cJ25_numberOfTrailingZeros 22 = .ok (.invokestatic 311, 3) := dk_184 1 55 (dk_at dksJ25_numberOfTrailingZeros_1 0 rfl rfl)
theorem dJ25_numberOfTrailingZeros_25 : decode cJ25_numberOfTrailingZeros 25 = .ok (.ireturn, 1) := dk_172 (dk_at dksJ25_numberOfTrailingZeros_1 3 rfl rfl)
theorem q138 : (Jvm.Cond.initialized "java/lang/Long") ∈ lw_all := lw_g (lw_at lw_m1 39 rfl) rfl
theorem q1451 : (Jvm.Cond.static ({ cls := "java/lang/Long", name := "numberOfLeadingZeros", desc := "(J)I" } : Jvm.MethodName)) ∈ lw_all := lw_g (lw_at lw_m6 152 rfl) rfl
theorem q1452 : (Jvm.Cond.code ({ cls := "java/lang/Long", name := "numberOfLeadingZeros", desc := "(J)I" } : Jvm.MethodName) prog_64_method_48_code (3 : Nat) (Option.some Jvm.ClassFile.FieldType.int)) ∈ lw_all := lw_g (lw_at lw_m6 153 rfl) rfl
theorem q1453 : (Jvm.Cond.methodLink "java/lang/Long" (308 : Nat) ({ cls := "java/lang/Integer", name := "numberOfLeadingZeros", desc := "(I)I" } : Jvm.MethodName)) ∈ lw_all := lw_g (lw_at lw_m6 154 rfl) rfl
theorem q1460 : (Jvm.Cond.static ({ cls := "java/lang/Long", name := "numberOfTrailingZeros", desc := "(J)I" } : Jvm.MethodName)) ∈ lw_all := lw_g (lw_at lw_m6 161 rfl) rfl
theorem q1461 : (Jvm.Cond.code ({ cls := "java/lang/Long", name := "numberOfTrailingZeros", desc := "(J)I" } : Jvm.MethodName) prog_64_method_49_code (3 : Nat) (Option.some Jvm.ClassFile.FieldType.int)) ∈ lw_all := lw_g (lw_at lw_m6 162 rfl) rfl
theorem q1462 : (Jvm.Cond.methodLink "java/lang/Long" (311 : Nat) ({ cls := "java/lang/Integer", name := "numberOfTrailingZeros", desc := "(I)I" } : Jvm.MethodName)) ∈ lw_all := lw_g (lw_at lw_m6 163 rfl) rfl
