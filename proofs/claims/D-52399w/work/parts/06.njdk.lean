set_option maxRecDepth 100000
/-! java/util/AbstractCollection -/
def RJ0 : String := "java/util/AbstractCollection"
abbrev cJ0_init : ByteArray := prog_77_method_1_code
def yJ0_init : MethodName := ⟨RJ0, "<init>", "()V"⟩
theorem dJ0_init_0 : decode cJ0_init 0 = .ok (.aload_n 0, 1) := by decide +kernel
theorem dJ0_init_1 : decode cJ0_init 1 = .ok (.invokespecial 1, 3) := by decide +kernel
theorem dJ0_init_4 : decode cJ0_init 4 = .ok (.return_, 1) := by decide +kernel
theorem q103 : (Jvm.Cond.initialized "java/util/AbstractCollection") ∈ lw_all := lw_g (lw_at lw_m1 4 rfl) rfl
theorem q205 : (Jvm.Cond.instanceMethod ({ cls := "java/util/AbstractCollection", name := "<init>", desc := "()V" } : Jvm.MethodName)) ∈ lw_all := lw_g (lw_at lw_m1 106 rfl) rfl
theorem q206 : (Jvm.Cond.code ({ cls := "java/util/AbstractCollection", name := "<init>", desc := "()V" } : Jvm.MethodName) prog_77_method_1_code (1 : Nat) (Option.none : Option Jvm.ClassFile.FieldType)) ∈ lw_all := lw_g (lw_at lw_m1 107 rfl) rfl
theorem q207 : (Jvm.Cond.methodLink "java/util/AbstractCollection" (1 : Nat) ({ cls := "java/lang/Object", name := "<init>", desc := "()V" } : Jvm.MethodName)) ∈ lw_all := lw_g (lw_at lw_m1 108 rfl) rfl

/-! java/util/AbstractList -/
def RJ1 : String := "java/util/AbstractList"
abbrev cJ1_init : ByteArray := prog_78_method_1_code
def yJ1_init : MethodName := ⟨RJ1, "<init>", "()V"⟩
def dkwJ1_init_0 : List UInt8 := [42, 183, 0, 1, 42, 3, 181, 0, 7, 177]
abbrev dktJ1_init_0 : List UInt8 := dkwJ1_init_0 ++ []
theorem dksJ1_init_0 : cJ1_init.data.toList.drop 0 = dktJ1_init_0 := by decide +kernel
theorem dJ1_init_0 : decode cJ1_init 0 = .ok (.aload_n 0, 1) := dk_42 (dk_at dksJ1_init_0 0 rfl rfl)
theorem dJ1_init_1 : decode cJ1_init 1 = .ok (.invokespecial 1, 3) := dk_183 0 1 (dk_at dksJ1_init_0 1 rfl rfl)
theorem dJ1_init_4 : decode cJ1_init 4 = .ok (.aload_n 0, 1) := dk_42 (dk_at dksJ1_init_0 4 rfl rfl)
theorem dJ1_init_5 : decode cJ1_init 5 = .ok (.iconst 0, 1) := dk_3 (dk_at dksJ1_init_0 5 rfl rfl)
theorem dJ1_init_6 : decode cJ1_init 6 = .ok (.putfield 7, 3) := dk_181 0 7 (dk_at dksJ1_init_0 6 rfl rfl)
theorem dJ1_init_9 : decode cJ1_init 9 = .ok (.return_, 1) := dk_177 (dk_at dksJ1_init_0 9 rfl rfl)
theorem q104 : (Jvm.Cond.initialized "java/util/AbstractList") ∈ lw_all := lw_g (lw_at lw_m1 5 rfl) rfl
theorem q202 : (Jvm.Cond.instanceMethod ({ cls := "java/util/AbstractList", name := "<init>", desc := "()V" } : Jvm.MethodName)) ∈ lw_all := lw_g (lw_at lw_m1 103 rfl) rfl
theorem q203 : (Jvm.Cond.code ({ cls := "java/util/AbstractList", name := "<init>", desc := "()V" } : Jvm.MethodName) prog_78_method_1_code (1 : Nat) (Option.none : Option Jvm.ClassFile.FieldType)) ∈ lw_all := lw_g (lw_at lw_m1 104 rfl) rfl
theorem q204 : (Jvm.Cond.methodLink "java/util/AbstractList" (1 : Nat) ({ cls := "java/util/AbstractCollection", name := "<init>", desc := "()V" } : Jvm.MethodName)) ∈ lw_all := lw_g (lw_at lw_m1 105 rfl) rfl
theorem q214 : (Jvm.Cond.fieldLink "java/util/AbstractList" (7 : Nat) "java/util/AbstractList" "modCount" "I") ∈ lw_all := lw_g (lw_at lw_m1 115 rfl) rfl
theorem q223 : (Jvm.Cond.soleField "java/util/AbstractList" "modCount") ∈ lw_all := lw_g (lw_at lw_m1 124 rfl) rfl

/-! java/util/ArrayList -/
def RJ2 : String := "java/util/ArrayList"
def TJ2 : u_T := fun k => match k with
  | 0 => ("java/util/AbstractList", "modCount", "I", false)
  | 1 => ("java/util/ArrayList", "elementData", "[Ljava/lang/Object;", false)
  | _ => ("java/util/ArrayList", "size", "I", false)
def tyJ2 : Nat → FieldType := fun k => match k with
  | 0 => .int
  | 1 => .array (.object "java/lang/Object")
  | _ => .int
abbrev wsJ20 : List Cond := u_ws RJ2 TJ2 3
theorem nmJ2 : ∀ a, a < 3 → ∀ b, b < 3 → a ≠ b → (TJ2 a).2.1 ≠ (TJ2 b).2.1 := by decide +kernel
theorem tyJ2_ok : ∀ k, k < 3 → parseFieldDescriptor (TJ2 k).2.2.1 = some (tyJ2 k) := by decide +kernel
abbrev cJ2_init : ByteArray := prog_80_method_2_code
def yJ2_init : MethodName := ⟨RJ2, "<init>", "()V"⟩
def dkwJ2_init_0 : List UInt8 := [42, 183, 0, 1, 42, 178, 0, 39, 181, 0, 9, 177]
abbrev dktJ2_init_0 : List UInt8 := dkwJ2_init_0 ++ []
theorem dksJ2_init_0 : cJ2_init.data.toList.drop 0 = dktJ2_init_0 := by decide +kernel
theorem dJ2_init_0 : decode cJ2_init 0 = .ok (.aload_n 0, 1) := dk_42 (dk_at dksJ2_init_0 0 rfl rfl)
theorem dJ2_init_1 : decode cJ2_init 1 = .ok (.invokespecial 1, 3) := dk_183 0 1 (dk_at dksJ2_init_0 1 rfl rfl)
theorem dJ2_init_4 : decode cJ2_init 4 = .ok (.aload_n 0, 1) := dk_42 (dk_at dksJ2_init_0 4 rfl rfl)
theorem dJ2_init_5 : decode cJ2_init 5 = .ok (.getstatic 39, 3) := dk_178 0 39 (dk_at dksJ2_init_0 5 rfl rfl)
theorem dJ2_init_8 : decode cJ2_init 8 = .ok (.putfield 9, 3) := dk_181 0 9 (dk_at dksJ2_init_0 8 rfl rfl)
theorem dJ2_init_11 : decode cJ2_init 11 = .ok (.return_, 1) := dk_177 (dk_at dksJ2_init_0 11 rfl rfl)
abbrev cJ2_size : ByteArray := prog_80_method_8_code
def yJ2_size : MethodName := ⟨RJ2, "size", "()I"⟩
theorem dJ2_size_0 : decode cJ2_size 0 = .ok (.aload_n 0, 1) := by decide +kernel
theorem dJ2_size_1 : decode cJ2_size 1 = .ok (.getfield 48, 3) := by decide +kernel
theorem dJ2_size_4 : decode cJ2_size 4 = .ok (.ireturn, 1) := by decide +kernel
abbrev cJ2_add : ByteArray := prog_80_method_25_code
def yJ2_add : MethodName := ⟨RJ2, "add", "(Ljava/lang/Object;)Z"⟩
def dkwJ2_add_1 : List UInt8 := [172]
abbrev dktJ2_add_1 : List UInt8 := dkwJ2_add_1 ++ []
def dkwJ2_add_0 : List UInt8 := [42, 89, 180, 0, 63, 4, 96, 181, 0, 63, 42, 43, 42, 180, 0, 9, 42, 180, 0, 48, 182, 0, 131, 4]
abbrev dktJ2_add_0 : List UInt8 := dkwJ2_add_0 ++ dktJ2_add_1
theorem dksJ2_add_0 : cJ2_add.data.toList.drop 0 = dktJ2_add_0 := by decide +kernel
theorem dksJ2_add_1 : cJ2_add.data.toList.drop 24 = dktJ2_add_1 := dk_seg dksJ2_add_0 24 rfl rfl
theorem dJ2_add_0 : decode cJ2_add 0 = .ok (.aload_n 0, 1) := dk_42 (dk_at dksJ2_add_0 0 rfl rfl)
theorem dJ2_add_1 : decode cJ2_add 1 = .ok (.dup, 1) := dk_89 (dk_at dksJ2_add_0 1 rfl rfl)
theorem dJ2_add_2 : decode cJ2_add 2 = .ok (.getfield 63, 3) := dk_180 0 63 (dk_at dksJ2_add_0 2 rfl rfl)
theorem dJ2_add_5 : decode cJ2_add 5 = .ok (.iconst 1, 1) := dk_4 (dk_at dksJ2_add_0 5 rfl rfl)
theorem dJ2_add_6 : decode cJ2_add 6 = .ok (.iadd, 1) := dk_96 (dk_at dksJ2_add_0 6 rfl rfl)
theorem dJ2_add_7 : decode cJ2_add 7 = .ok (.putfield 63, 3) := dk_181 0 63 (dk_at dksJ2_add_0 7 rfl rfl)
theorem dJ2_add_10 : decode cJ2_add 10 = .ok (.aload_n 0, 1) := dk_42 (dk_at dksJ2_add_0 10 rfl rfl)
theorem dJ2_add_11 : decode cJ2_add 11 = .ok (.aload_n 1, 1) := dk_43 (dk_at dksJ2_add_0 11 rfl rfl)
theorem dJ2_add_12 : decode cJ2_add 12 = .ok (.aload_n 0, 1) := dk_42 (dk_at dksJ2_add_0 12 rfl rfl)
theorem dJ2_add_13 : decode cJ2_add 13 = .ok (.getfield 9, 3) := dk_180 0 9 (dk_at dksJ2_add_0 13 rfl rfl)
theorem dJ2_add_16 : decode cJ2_add 16 = .ok (.aload_n 0, 1) := dk_42 (dk_at dksJ2_add_0 16 rfl rfl)
theorem dJ2_add_17 : decode cJ2_add 17 = .ok (.getfield 48, 3) := dk_180 0 48 (dk_at dksJ2_add_0 17 rfl rfl)
theorem dJ2_add_20 : decode cJ2_add 20 = .ok (.invokevirtual 131, 3) := dk_182 0 131 (dk_at dksJ2_add_0 20 rfl rfl)
theorem dJ2_add_23 : decode cJ2_add 23 = .ok (.iconst 1, 1) := dk_4 (dk_at dksJ2_add_0 23 rfl rfl)
theorem dJ2_add_24 : decode cJ2_add 24 = .ok (.ireturn, 1) := dk_172 (dk_at dksJ2_add_1 0 rfl rfl)
abbrev cJ2_add_2 : ByteArray := prog_80_method_24_code
def yJ2_add_2 : MethodName := ⟨RJ2, "add", "(Ljava/lang/Object;[Ljava/lang/Object;I)V"⟩
def dkwJ2_add_2_0 : List UInt8 := [29, 44, 190, 160, 0, 8, 42, 182, 0, 129, 77, 44, 29, 43, 83, 42, 29, 4, 96, 181, 0, 48, 177]
abbrev dktJ2_add_2_0 : List UInt8 := dkwJ2_add_2_0 ++ []
theorem dksJ2_add_2_0 : cJ2_add_2.data.toList.drop 0 = dktJ2_add_2_0 := by decide +kernel
theorem dJ2_add_2_0 : decode cJ2_add_2 0 = .ok (.iload_n 3, 1) := dk_29 (dk_at dksJ2_add_2_0 0 rfl rfl)
theorem dJ2_add_2_1 : decode cJ2_add_2 1 = .ok (.aload_n 2, 1) := dk_44 (dk_at dksJ2_add_2_0 1 rfl rfl)
theorem dJ2_add_2_2 : decode cJ2_add_2 2 = .ok (.arraylength, 1) := dk_190 (dk_at dksJ2_add_2_0 2 rfl rfl)
theorem dJ2_add_2_3 : decode cJ2_add_2 3 = .ok (.if_icmp .ne 8, 3) := dk_160 0 8 (dk_at dksJ2_add_2_0 3 rfl rfl)
theorem dJ2_add_2_6 : decode cJ2_add_2 6 = .ok (.aload_n 0, 1) := dk_42 (dk_at dksJ2_add_2_0 6 rfl rfl)
theorem dJ2_add_2_7 : decode cJ2_add_2 7 = .ok (.invokevirtual 129, 3) := dk_182 0 129 (dk_at dksJ2_add_2_0 7 rfl rfl)
theorem dJ2_add_2_10 : decode cJ2_add_2 10 = .ok (.astore_n 2, 1) := dk_77 (dk_at dksJ2_add_2_0 10 rfl rfl)
theorem dJ2_add_2_11 : decode cJ2_add_2 11 = .ok (.aload_n 2, 1) := dk_44 (dk_at dksJ2_add_2_0 11 rfl rfl)
theorem dJ2_add_2_12 : decode cJ2_add_2 12 = .ok (.iload_n 3, 1) := dk_29 (dk_at dksJ2_add_2_0 12 rfl rfl)
theorem dJ2_add_2_13 : decode cJ2_add_2 13 = .ok (.aload_n 1, 1) := dk_43 (dk_at dksJ2_add_2_0 13 rfl rfl)
theorem dJ2_add_2_14 : decode cJ2_add_2 14 = .ok (.aastore, 1) := dk_83 (dk_at dksJ2_add_2_0 14 rfl rfl)
theorem dJ2_add_2_15 : decode cJ2_add_2 15 = .ok (.aload_n 0, 1) := dk_42 (dk_at dksJ2_add_2_0 15 rfl rfl)
theorem dJ2_add_2_16 : decode cJ2_add_2 16 = .ok (.iload_n 3, 1) := dk_29 (dk_at dksJ2_add_2_0 16 rfl rfl)
theorem dJ2_add_2_17 : decode cJ2_add_2 17 = .ok (.iconst 1, 1) := dk_4 (dk_at dksJ2_add_2_0 17 rfl rfl)
theorem dJ2_add_2_18 : decode cJ2_add_2 18 = .ok (.iadd, 1) := dk_96 (dk_at dksJ2_add_2_0 18 rfl rfl)
theorem dJ2_add_2_19 : decode cJ2_add_2 19 = .ok (.putfield 48, 3) := dk_181 0 48 (dk_at dksJ2_add_2_0 19 rfl rfl)
theorem dJ2_add_2_22 : decode cJ2_add_2 22 = .ok (.return_, 1) := dk_177 (dk_at dksJ2_add_2_0 22 rfl rfl)
abbrev cJ2_grow : ByteArray := prog_80_method_7_code
def yJ2_grow : MethodName := ⟨RJ2, "grow", "()[Ljava/lang/Object;"⟩
def dkwJ2_grow_0 : List UInt8 := [42, 42, 180, 0, 48, 4, 96, 182, 0, 69, 176]
abbrev dktJ2_grow_0 : List UInt8 := dkwJ2_grow_0 ++ []
theorem dksJ2_grow_0 : cJ2_grow.data.toList.drop 0 = dktJ2_grow_0 := by decide +kernel
theorem dJ2_grow_0 : decode cJ2_grow 0 = .ok (.aload_n 0, 1) := dk_42 (dk_at dksJ2_grow_0 0 rfl rfl)
theorem dJ2_grow_1 : decode cJ2_grow 1 = .ok (.aload_n 0, 1) := dk_42 (dk_at dksJ2_grow_0 1 rfl rfl)
theorem dJ2_grow_2 : decode cJ2_grow 2 = .ok (.getfield 48, 3) := dk_180 0 48 (dk_at dksJ2_grow_0 2 rfl rfl)
theorem dJ2_grow_5 : decode cJ2_grow 5 = .ok (.iconst 1, 1) := dk_4 (dk_at dksJ2_grow_0 5 rfl rfl)
theorem dJ2_grow_6 : decode cJ2_grow 6 = .ok (.iadd, 1) := dk_96 (dk_at dksJ2_grow_0 6 rfl rfl)
theorem dJ2_grow_7 : decode cJ2_grow 7 = .ok (.invokevirtual 69, 3) := dk_182 0 69 (dk_at dksJ2_grow_0 7 rfl rfl)
theorem dJ2_grow_10 : decode cJ2_grow 10 = .ok (.areturn, 1) := dk_176 (dk_at dksJ2_grow_0 10 rfl rfl)
abbrev cJ2_grow_2 : ByteArray := prog_80_method_6_code
def yJ2_grow_2 : MethodName := ⟨RJ2, "grow", "(I)[Ljava/lang/Object;"⟩
def dkwJ2_grow_2_2 : List UInt8 := [27, 184, 0, 79, 189, 0, 7, 90, 181, 0, 9, 176]
abbrev dktJ2_grow_2_2 : List UInt8 := dkwJ2_grow_2_2 ++ []
def dkwJ2_grow_2_1 : List UInt8 := [28, 4, 122, 184, 0, 73, 62, 42, 42, 180, 0, 9, 29, 184, 0, 66, 90, 181, 0, 9, 176, 42, 16, 10]
abbrev dktJ2_grow_2_1 : List UInt8 := dkwJ2_grow_2_1 ++ dktJ2_grow_2_2
def dkwJ2_grow_2_0 : List UInt8 := [42, 180, 0, 9, 190, 61, 28, 157, 0, 13, 42, 180, 0, 9, 178, 0, 39, 165, 0, 28, 28, 27, 28, 100]
abbrev dktJ2_grow_2_0 : List UInt8 := dkwJ2_grow_2_0 ++ dktJ2_grow_2_1
theorem dksJ2_grow_2_0 : cJ2_grow_2.data.toList.drop 0 = dktJ2_grow_2_0 := by decide +kernel
theorem dksJ2_grow_2_1 : cJ2_grow_2.data.toList.drop 24 = dktJ2_grow_2_1 := dk_seg dksJ2_grow_2_0 24 rfl rfl
theorem dksJ2_grow_2_2 : cJ2_grow_2.data.toList.drop 48 = dktJ2_grow_2_2 := dk_seg dksJ2_grow_2_1 24 rfl rfl
theorem dJ2_grow_2_0 : decode cJ2_grow_2 0 = .ok (.aload_n 0, 1) := dk_42 (dk_at dksJ2_grow_2_0 0 rfl rfl)
theorem dJ2_grow_2_1 : decode cJ2_grow_2 1 = .ok (.getfield 9, 3) := dk_180 0 9 (dk_at dksJ2_grow_2_0 1 rfl rfl)
theorem dJ2_grow_2_4 : decode cJ2_grow_2 4 = .ok (.arraylength, 1) := dk_190 (dk_at dksJ2_grow_2_0 4 rfl rfl)
theorem dJ2_grow_2_5 : decode cJ2_grow_2 5 = .ok (.istore_n 2, 1) := dk_61 (dk_at dksJ2_grow_2_0 5 rfl rfl)
theorem dJ2_grow_2_6 : decode cJ2_grow_2 6 = .ok (.iload_n 2, 1) := dk_28 (dk_at dksJ2_grow_2_0 6 rfl rfl)
theorem dJ2_grow_2_7 : decode cJ2_grow_2 7 = .ok (.ifCond .gt 13, 3) := dk_157 0 13 (dk_at dksJ2_grow_2_0 7 rfl rfl)
theorem dJ2_grow_2_10 : decode cJ2_grow_2 10 = .ok (.aload_n 0, 1) := dk_42 (dk_at dksJ2_grow_2_0 10 rfl rfl)
theorem dJ2_grow_2_11 : decode cJ2_grow_2 11 = .ok (.getfield 9, 3) := dk_180 0 9 (dk_at dksJ2_grow_2_0 11 rfl rfl)
theorem dJ2_grow_2_14 : decode cJ2_grow_2 14 = .ok (.getstatic 39, 3) := dk_178 0 39 (dk_at dksJ2_grow_2_0 14 rfl rfl)
theorem dJ2_grow_2_17 : decode cJ2_grow_2 17 = .ok (.if_acmp .eq 28, 3) := dk_165 0 28 (dk_at dksJ2_grow_2_0 17 rfl rfl)
theorem dJ2_grow_2_20 : decode cJ2_grow_2 20 = .ok (.iload_n 2, 1) := dk_28 (dk_at dksJ2_grow_2_0 20 rfl rfl)
theorem dJ2_grow_2_21 : decode cJ2_grow_2 21 = .ok (.iload_n 1, 1) := dk_27 (dk_at dksJ2_grow_2_0 21 rfl rfl)
theorem dJ2_grow_2_22 : decode cJ2_grow_2 22 = .ok (.iload_n 2, 1) := dk_28 (dk_at dksJ2_grow_2_0 22 rfl rfl)
theorem dJ2_grow_2_23 : decode cJ2_grow_2 23 = .ok (.isub, 1) := dk_100 (dk_at dksJ2_grow_2_0 23 rfl rfl)
theorem dJ2_grow_2_24 : decode cJ2_grow_2 24 = .ok (.iload_n 2, 1) := dk_28 (dk_at dksJ2_grow_2_1 0 rfl rfl)
theorem dJ2_grow_2_25 : decode cJ2_grow_2 25 = .ok (.iconst 1, 1) := dk_4 (dk_at dksJ2_grow_2_1 1 rfl rfl)
theorem dJ2_grow_2_26 : decode cJ2_grow_2 26 = .ok (.ishr, 1) := dk_122 (dk_at dksJ2_grow_2_1 2 rfl rfl)
theorem dJ2_grow_2_27 : decode cJ2_grow_2 27 = .ok (.invokestatic 73, 3) := dk_184 0 73 (dk_at dksJ2_grow_2_1 3 rfl rfl)
theorem dJ2_grow_2_30 : decode cJ2_grow_2 30 = .ok (.istore_n 3, 1) := dk_62 (dk_at dksJ2_grow_2_1 6 rfl rfl)
theorem dJ2_grow_2_31 : decode cJ2_grow_2 31 = .ok (.aload_n 0, 1) := dk_42 (dk_at dksJ2_grow_2_1 7 rfl rfl)
theorem dJ2_grow_2_32 : decode cJ2_grow_2 32 = .ok (.aload_n 0, 1) := dk_42 (dk_at dksJ2_grow_2_1 8 rfl rfl)
theorem dJ2_grow_2_33 : decode cJ2_grow_2 33 = .ok (.getfield 9, 3) := dk_180 0 9 (dk_at dksJ2_grow_2_1 9 rfl rfl)
theorem dJ2_grow_2_36 : decode cJ2_grow_2 36 = .ok (.iload_n 3, 1) := dk_29 (dk_at dksJ2_grow_2_1 12 rfl rfl)
theorem dJ2_grow_2_37 : decode cJ2_grow_2 37 = .ok (.invokestatic 66, 3) := dk_184 0 66 (dk_at dksJ2_grow_2_1 13 rfl rfl)
theorem dJ2_grow_2_40 : decode cJ2_grow_2 40 = .ok (.dup_x1, 1) := dk_90 (dk_at dksJ2_grow_2_1 16 rfl rfl)
theorem dJ2_grow_2_41 : decode cJ2_grow_2 41 = .ok (.putfield 9, 3) := dk_181 0 9 (dk_at dksJ2_grow_2_1 17 rfl rfl)
theorem dJ2_grow_2_44 : decode cJ2_grow_2 44 = .ok (.areturn, 1) := dk_176 (dk_at dksJ2_grow_2_1 20 rfl rfl)
theorem dJ2_grow_2_45 : decode cJ2_grow_2 45 = .ok (.aload_n 0, 1) := dk_42 (dk_at dksJ2_grow_2_1 21 rfl rfl)
theorem dJ2_grow_2_46 : decode cJ2_grow_2 46 = .ok (.bipush 10, 2) := dk_16 10 (dk_at dksJ2_grow_2_1 22 rfl rfl)
theorem dJ2_grow_2_48 : decode cJ2_grow_2 48 = .ok (.iload_n 1, 1) := dk_27 (dk_at dksJ2_grow_2_2 0 rfl rfl)
theorem dJ2_grow_2_49 : decode cJ2_grow_2 49 = .ok (.invokestatic 79, 3) := dk_184 0 79 (dk_at dksJ2_grow_2_2 1 rfl rfl)
theorem dJ2_grow_2_52 : decode cJ2_grow_2 52 = .ok (.anewarray 7, 3) := dk_189 0 7 (dk_at dksJ2_grow_2_2 4 rfl rfl)
theorem dJ2_grow_2_55 : decode cJ2_grow_2 55 = .ok (.dup_x1, 1) := dk_90 (dk_at dksJ2_grow_2_2 7 rfl rfl)
theorem dJ2_grow_2_56 : decode cJ2_grow_2 56 = .ok (.putfield 9, 3) := dk_181 0 9 (dk_at dksJ2_grow_2_2 8 rfl rfl)
theorem dJ2_grow_2_59 : decode cJ2_grow_2 59 = .ok (.areturn, 1) := dk_176 (dk_at dksJ2_grow_2_2 11 rfl rfl)
abbrev cJ2_get : ByteArray := prog_80_method_20_code
def yJ2_get : MethodName := ⟨RJ2, "get", "(I)Ljava/lang/Object;"⟩
def dkwJ2_get_0 : List UInt8 := [27, 42, 180, 0, 48, 184, 0, 118, 87, 42, 27, 182, 0, 123, 176]
abbrev dktJ2_get_0 : List UInt8 := dkwJ2_get_0 ++ []
theorem dksJ2_get_0 : cJ2_get.data.toList.drop 0 = dktJ2_get_0 := by decide +kernel
theorem dJ2_get_0 : decode cJ2_get 0 = .ok (.iload_n 1, 1) := dk_27 (dk_at dksJ2_get_0 0 rfl rfl)
theorem dJ2_get_1 : decode cJ2_get 1 = .ok (.aload_n 0, 1) := dk_42 (dk_at dksJ2_get_0 1 rfl rfl)
theorem dJ2_get_2 : decode cJ2_get 2 = .ok (.getfield 48, 3) := dk_180 0 48 (dk_at dksJ2_get_0 2 rfl rfl)
theorem dJ2_get_5 : decode cJ2_get 5 = .ok (.invokestatic 118, 3) := dk_184 0 118 (dk_at dksJ2_get_0 5 rfl rfl)
theorem dJ2_get_8 : decode cJ2_get 8 = .ok (.pop, 1) := dk_87 (dk_at dksJ2_get_0 8 rfl rfl)
theorem dJ2_get_9 : decode cJ2_get 9 = .ok (.aload_n 0, 1) := dk_42 (dk_at dksJ2_get_0 9 rfl rfl)
theorem dJ2_get_10 : decode cJ2_get 10 = .ok (.iload_n 1, 1) := dk_27 (dk_at dksJ2_get_0 10 rfl rfl)
theorem dJ2_get_11 : decode cJ2_get 11 = .ok (.invokevirtual 123, 3) := dk_182 0 123 (dk_at dksJ2_get_0 11 rfl rfl)
theorem dJ2_get_14 : decode cJ2_get 14 = .ok (.areturn, 1) := dk_176 (dk_at dksJ2_get_0 14 rfl rfl)
abbrev cJ2_elementData : ByteArray := prog_80_method_18_code
def yJ2_elementData : MethodName := ⟨RJ2, "elementData", "(I)Ljava/lang/Object;"⟩
def dkwJ2_elementData_0 : List UInt8 := [42, 180, 0, 9, 27, 50, 176]
abbrev dktJ2_elementData_0 : List UInt8 := dkwJ2_elementData_0 ++ []
theorem dksJ2_elementData_0 : cJ2_elementData.data.toList.drop 0 = dktJ2_elementData_0 := by decide +kernel
theorem dJ2_elementData_0 : decode cJ2_elementData 0 = .ok (.aload_n 0, 1) := dk_42 (dk_at dksJ2_elementData_0 0 rfl rfl)
theorem dJ2_elementData_1 : decode cJ2_elementData 1 = .ok (.getfield 9, 3) := dk_180 0 9 (dk_at dksJ2_elementData_0 1 rfl rfl)
theorem dJ2_elementData_4 : decode cJ2_elementData 4 = .ok (.iload_n 1, 1) := dk_27 (dk_at dksJ2_elementData_0 4 rfl rfl)
theorem dJ2_elementData_5 : decode cJ2_elementData 5 = .ok (.aaload, 1) := dk_50 (dk_at dksJ2_elementData_0 5 rfl rfl)
theorem dJ2_elementData_6 : decode cJ2_elementData 6 = .ok (.areturn, 1) := dk_176 (dk_at dksJ2_elementData_0 6 rfl rfl)
abbrev cJ2_clear : ByteArray := prog_80_method_40_code
def yJ2_clear : MethodName := ⟨RJ2, "clear", "()V"⟩
def dkwJ2_clear_1 : List UInt8 := [181, 0, 48, 62, 29, 28, 162, 0, 13, 43, 29, 1, 83, 132, 3, 1, 167, 255, 244, 177]
abbrev dktJ2_clear_1 : List UInt8 := dkwJ2_clear_1 ++ []
def dkwJ2_clear_0 : List UInt8 := [42, 89, 180, 0, 63, 4, 96, 181, 0, 63, 42, 180, 0, 9, 76, 42, 180, 0, 48, 61, 42, 3, 90]
abbrev dktJ2_clear_0 : List UInt8 := dkwJ2_clear_0 ++ dktJ2_clear_1
theorem dksJ2_clear_0 : cJ2_clear.data.toList.drop 0 = dktJ2_clear_0 := by decide +kernel
theorem dksJ2_clear_1 : cJ2_clear.data.toList.drop 23 = dktJ2_clear_1 := dk_seg dksJ2_clear_0 23 rfl rfl
theorem dJ2_clear_0 : decode cJ2_clear 0 = .ok (.aload_n 0, 1) := dk_42 (dk_at dksJ2_clear_0 0 rfl rfl)
theorem dJ2_clear_1 : decode cJ2_clear 1 = .ok (.dup, 1) := dk_89 (dk_at dksJ2_clear_0 1 rfl rfl)
theorem dJ2_clear_2 : decode cJ2_clear 2 = .ok (.getfield 63, 3) := dk_180 0 63 (dk_at dksJ2_clear_0 2 rfl rfl)
theorem dJ2_clear_5 : decode cJ2_clear 5 = .ok (.iconst 1, 1) := dk_4 (dk_at dksJ2_clear_0 5 rfl rfl)
theorem dJ2_clear_6 : decode cJ2_clear 6 = .ok (.iadd, 1) := dk_96 (dk_at dksJ2_clear_0 6 rfl rfl)
theorem dJ2_clear_7 : decode cJ2_clear 7 = .ok (.putfield 63, 3) := dk_181 0 63 (dk_at dksJ2_clear_0 7 rfl rfl)
theorem dJ2_clear_10 : decode cJ2_clear 10 = .ok (.aload_n 0, 1) := dk_42 (dk_at dksJ2_clear_0 10 rfl rfl)
theorem dJ2_clear_11 : decode cJ2_clear 11 = .ok (.getfield 9, 3) := dk_180 0 9 (dk_at dksJ2_clear_0 11 rfl rfl)
theorem dJ2_clear_14 : decode cJ2_clear 14 = .ok (.astore_n 1, 1) := dk_76 (dk_at dksJ2_clear_0 14 rfl rfl)
theorem dJ2_clear_15 : decode cJ2_clear 15 = .ok (.aload_n 0, 1) := dk_42 (dk_at dksJ2_clear_0 15 rfl rfl)
theorem dJ2_clear_16 : decode cJ2_clear 16 = .ok (.getfield 48, 3) := dk_180 0 48 (dk_at dksJ2_clear_0 16 rfl rfl)
theorem dJ2_clear_19 : decode cJ2_clear 19 = .ok (.istore_n 2, 1) := dk_61 (dk_at dksJ2_clear_0 19 rfl rfl)
theorem dJ2_clear_20 : decode cJ2_clear 20 = .ok (.aload_n 0, 1) := dk_42 (dk_at dksJ2_clear_0 20 rfl rfl)
theorem dJ2_clear_21 : decode cJ2_clear 21 = .ok (.iconst 0, 1) := dk_3 (dk_at dksJ2_clear_0 21 rfl rfl)
theorem dJ2_clear_22 : decode cJ2_clear 22 = .ok (.dup_x1, 1) := dk_90 (dk_at dksJ2_clear_0 22 rfl rfl)
theorem dJ2_clear_23 : decode cJ2_clear 23 = .ok (.putfield 48, 3) := dk_181 0 48 (dk_at dksJ2_clear_1 0 rfl rfl)
theorem dJ2_clear_26 : decode cJ2_clear 26 = .ok (.istore_n 3, 1) := dk_62 (dk_at dksJ2_clear_1 3 rfl rfl)
theorem dJ2_clear_27 : decode cJ2_clear 27 = .ok (.iload_n 3, 1) := dk_29 (dk_at dksJ2_clear_1 4 rfl rfl)
theorem dJ2_clear_28 : decode cJ2_clear 28 = .ok (.iload_n 2, 1) := dk_28 (dk_at dksJ2_clear_1 5 rfl rfl)
theorem dJ2_clear_29 : decode cJ2_clear 29 = .ok (.if_icmp .ge 13, 3) := dk_162 0 13 (dk_at dksJ2_clear_1 6 rfl rfl)
theorem dJ2_clear_32 : decode cJ2_clear 32 = .ok (.aload_n 1, 1) := dk_43 (dk_at dksJ2_clear_1 9 rfl rfl)
theorem dJ2_clear_33 : decode cJ2_clear 33 = .ok (.iload_n 3, 1) := dk_29 (dk_at dksJ2_clear_1 10 rfl rfl)
theorem dJ2_clear_34 : decode cJ2_clear 34 = .ok (.aconst_null, 1) := dk_1 (dk_at dksJ2_clear_1 11 rfl rfl)
theorem dJ2_clear_35 : decode cJ2_clear 35 = .ok (.aastore, 1) := dk_83 (dk_at dksJ2_clear_1 12 rfl rfl)
theorem dJ2_clear_36 : decode cJ2_clear 36 = .ok (.iinc 3 1, 3) := dk_132 3 1 (dk_at dksJ2_clear_1 13 rfl rfl)
theorem dJ2_clear_39 : decode cJ2_clear 39 = .ok (.goto (-12), 3) := dk_167 255 244 (dk_at dksJ2_clear_1 16 rfl rfl)
theorem dJ2_clear_42 : decode cJ2_clear 42 = .ok (.return_, 1) := dk_177 (dk_at dksJ2_clear_1 19 rfl rfl)
abbrev cJ2_addAll : ByteArray := prog_80_method_41_code
def yJ2_addAll : MethodName := ⟨RJ2, "addAll", "(Ljava/util/Collection;)Z"⟩
def dkwJ2_addAll_3 : List UInt8 := [181, 0, 48, 4, 172]
abbrev dktJ2_addAll_3 : List UInt8 := dkwJ2_addAll_3 ++ []
def dkwJ2_addAll_2 : List UInt8 := [21, 5, 29, 96, 182, 0, 69, 58, 4, 44, 3, 25, 4, 21, 5, 29, 184, 0, 112, 42, 21, 5, 29, 96]
abbrev dktJ2_addAll_2 : List UInt8 := dkwJ2_addAll_2 ++ dktJ2_addAll_3
def dkwJ2_addAll_1 : List UInt8 := [3, 172, 29, 42, 180, 0, 9, 89, 58, 4, 190, 42, 180, 0, 48, 89, 54, 5, 100, 164, 0, 13, 42]
abbrev dktJ2_addAll_1 : List UInt8 := dkwJ2_addAll_1 ++ dktJ2_addAll_2
def dkwJ2_addAll_0 : List UInt8 := [43, 185, 0, 42, 1, 0, 77, 42, 89, 180, 0, 63, 4, 96, 181, 0, 63, 44, 190, 62, 29, 154, 0, 5]
abbrev dktJ2_addAll_0 : List UInt8 := dkwJ2_addAll_0 ++ dktJ2_addAll_1
theorem dksJ2_addAll_0 : cJ2_addAll.data.toList.drop 0 = dktJ2_addAll_0 := by decide +kernel
theorem dksJ2_addAll_1 : cJ2_addAll.data.toList.drop 24 = dktJ2_addAll_1 := dk_seg dksJ2_addAll_0 24 rfl rfl
theorem dksJ2_addAll_2 : cJ2_addAll.data.toList.drop 47 = dktJ2_addAll_2 := dk_seg dksJ2_addAll_1 23 rfl rfl
theorem dksJ2_addAll_3 : cJ2_addAll.data.toList.drop 71 = dktJ2_addAll_3 := dk_seg dksJ2_addAll_2 24 rfl rfl
theorem dJ2_addAll_0 : decode cJ2_addAll 0 = .ok (.aload_n 1, 1) := dk_43 (dk_at dksJ2_addAll_0 0 rfl rfl)
theorem dJ2_addAll_1 : decode cJ2_addAll 1 = .ok (.invokeinterface 42 1, 5) := by decide +kernel
theorem dJ2_addAll_6 : decode cJ2_addAll 6 = .ok (.astore_n 2, 1) := dk_77 (dk_at dksJ2_addAll_0 6 rfl rfl)
theorem dJ2_addAll_7 : decode cJ2_addAll 7 = .ok (.aload_n 0, 1) := dk_42 (dk_at dksJ2_addAll_0 7 rfl rfl)
theorem dJ2_addAll_8 : decode cJ2_addAll 8 = .ok (.dup, 1) := dk_89 (dk_at dksJ2_addAll_0 8 rfl rfl)
theorem dJ2_addAll_9 : decode cJ2_addAll 9 = .ok (.getfield 63, 3) := dk_180 0 63 (dk_at dksJ2_addAll_0 9 rfl rfl)
theorem dJ2_addAll_12 : decode cJ2_addAll 12 = .ok (.iconst 1, 1) := dk_4 (dk_at dksJ2_addAll_0 12 rfl rfl)
theorem dJ2_addAll_13 : decode cJ2_addAll 13 = .ok (.iadd, 1) := dk_96 (dk_at dksJ2_addAll_0 13 rfl rfl)
theorem dJ2_addAll_14 : decode cJ2_addAll 14 = .ok (.putfield 63, 3) := dk_181 0 63 (dk_at dksJ2_addAll_0 14 rfl rfl)
theorem dJ2_addAll_17 : decode cJ2_addAll 17 = .ok (.aload_n 2, 1) := dk_44 (dk_at dksJ2_addAll_0 17 rfl rfl)
theorem dJ2_addAll_18 : decode cJ2_addAll 18 = .ok (.arraylength, 1) := dk_190 (dk_at dksJ2_addAll_0 18 rfl rfl)
theorem dJ2_addAll_19 : decode cJ2_addAll 19 = .ok (.istore_n 3, 1) := dk_62 (dk_at dksJ2_addAll_0 19 rfl rfl)
theorem dJ2_addAll_20 : decode cJ2_addAll 20 = .ok (.iload_n 3, 1) := dk_29 (dk_at dksJ2_addAll_0 20 rfl rfl)
theorem dJ2_addAll_21 : decode cJ2_addAll 21 = .ok (.ifCond .ne 5, 3) := dk_154 0 5 (dk_at dksJ2_addAll_0 21 rfl rfl)
theorem dJ2_addAll_24 : decode cJ2_addAll 24 = .ok (.iconst 0, 1) := dk_3 (dk_at dksJ2_addAll_1 0 rfl rfl)
theorem dJ2_addAll_25 : decode cJ2_addAll 25 = .ok (.ireturn, 1) := dk_172 (dk_at dksJ2_addAll_1 1 rfl rfl)
theorem dJ2_addAll_26 : decode cJ2_addAll 26 = .ok (.iload_n 3, 1) := dk_29 (dk_at dksJ2_addAll_1 2 rfl rfl)
theorem dJ2_addAll_27 : decode cJ2_addAll 27 = .ok (.aload_n 0, 1) := dk_42 (dk_at dksJ2_addAll_1 3 rfl rfl)
theorem dJ2_addAll_28 : decode cJ2_addAll 28 = .ok (.getfield 9, 3) := dk_180 0 9 (dk_at dksJ2_addAll_1 4 rfl rfl)
theorem dJ2_addAll_31 : decode cJ2_addAll 31 = .ok (.dup, 1) := dk_89 (dk_at dksJ2_addAll_1 7 rfl rfl)
theorem dJ2_addAll_32 : decode cJ2_addAll 32 = .ok (.astore 4, 2) := dk_58 4 (dk_at dksJ2_addAll_1 8 rfl rfl)
theorem dJ2_addAll_34 : decode cJ2_addAll 34 = .ok (.arraylength, 1) := dk_190 (dk_at dksJ2_addAll_1 10 rfl rfl)
theorem dJ2_addAll_35 : decode cJ2_addAll 35 = .ok (.aload_n 0, 1) := dk_42 (dk_at dksJ2_addAll_1 11 rfl rfl)
theorem dJ2_addAll_36 : decode cJ2_addAll 36 = .ok (.getfield 48, 3) := dk_180 0 48 (dk_at dksJ2_addAll_1 12 rfl rfl)
theorem dJ2_addAll_39 : decode cJ2_addAll 39 = .ok (.dup, 1) := dk_89 (dk_at dksJ2_addAll_1 15 rfl rfl)
theorem dJ2_addAll_40 : decode cJ2_addAll 40 = .ok (.istore 5, 2) := dk_54 5 (dk_at dksJ2_addAll_1 16 rfl rfl)
theorem dJ2_addAll_42 : decode cJ2_addAll 42 = .ok (.isub, 1) := dk_100 (dk_at dksJ2_addAll_1 18 rfl rfl)
theorem dJ2_addAll_43 : decode cJ2_addAll 43 = .ok (.if_icmp .le 13, 3) := dk_164 0 13 (dk_at dksJ2_addAll_1 19 rfl rfl)
theorem dJ2_addAll_46 : decode cJ2_addAll 46 = .ok (.aload_n 0, 1) := dk_42 (dk_at dksJ2_addAll_1 22 rfl rfl)
theorem dJ2_addAll_47 : decode cJ2_addAll 47 = .ok (.iload 5, 2) := dk_21 5 (dk_at dksJ2_addAll_2 0 rfl rfl)
theorem dJ2_addAll_49 : decode cJ2_addAll 49 = .ok (.iload_n 3, 1) := dk_29 (dk_at dksJ2_addAll_2 2 rfl rfl)
theorem dJ2_addAll_50 : decode cJ2_addAll 50 = .ok (.iadd, 1) := dk_96 (dk_at dksJ2_addAll_2 3 rfl rfl)
theorem dJ2_addAll_51 : decode cJ2_addAll 51 = .ok (.invokevirtual 69, 3) := dk_182 0 69 (dk_at dksJ2_addAll_2 4 rfl rfl)
theorem dJ2_addAll_54 : decode cJ2_addAll 54 = .ok (.astore 4, 2) := dk_58 4 (dk_at dksJ2_addAll_2 7 rfl rfl)
theorem dJ2_addAll_56 : decode cJ2_addAll 56 = .ok (.aload_n 2, 1) := dk_44 (dk_at dksJ2_addAll_2 9 rfl rfl)
theorem dJ2_addAll_57 : decode cJ2_addAll 57 = .ok (.iconst 0, 1) := dk_3 (dk_at dksJ2_addAll_2 10 rfl rfl)
theorem dJ2_addAll_58 : decode cJ2_addAll 58 = .ok (.aload 4, 2) := dk_25 4 (dk_at dksJ2_addAll_2 11 rfl rfl)
theorem dJ2_addAll_60 : decode cJ2_addAll 60 = .ok (.iload 5, 2) := dk_21 5 (dk_at dksJ2_addAll_2 13 rfl rfl)
theorem dJ2_addAll_62 : decode cJ2_addAll 62 = .ok (.iload_n 3, 1) := dk_29 (dk_at dksJ2_addAll_2 15 rfl rfl)
theorem dJ2_addAll_63 : decode cJ2_addAll 63 = .ok (.invokestatic 112, 3) := dk_184 0 112 (dk_at dksJ2_addAll_2 16 rfl rfl)
theorem dJ2_addAll_66 : decode cJ2_addAll 66 = .ok (.aload_n 0, 1) := dk_42 (dk_at dksJ2_addAll_2 19 rfl rfl)
theorem dJ2_addAll_67 : decode cJ2_addAll 67 = .ok (.iload 5, 2) := dk_21 5 (dk_at dksJ2_addAll_2 20 rfl rfl)
theorem dJ2_addAll_69 : decode cJ2_addAll 69 = .ok (.iload_n 3, 1) := dk_29 (dk_at dksJ2_addAll_2 22 rfl rfl)
theorem dJ2_addAll_70 : decode cJ2_addAll 70 = .ok (.iadd, 1) := dk_96 (dk_at dksJ2_addAll_2 23 rfl rfl)
theorem dJ2_addAll_71 : decode cJ2_addAll 71 = .ok (.putfield 48, 3) := dk_181 0 48 (dk_at dksJ2_addAll_3 0 rfl rfl)
theorem dJ2_addAll_74 : decode cJ2_addAll 74 = .ok (.iconst 1, 1) := dk_4 (dk_at dksJ2_addAll_3 3 rfl rfl)
theorem dJ2_addAll_75 : decode cJ2_addAll 75 = .ok (.ireturn, 1) := dk_172 (dk_at dksJ2_addAll_3 4 rfl rfl)
abbrev cJ2_toArray : ByteArray := prog_80_method_16_code
def yJ2_toArray : MethodName := ⟨RJ2, "toArray", "()[Ljava/lang/Object;"⟩
def dkwJ2_toArray_0 : List UInt8 := [42, 180, 0, 9, 42, 180, 0, 48, 184, 0, 66, 176]
abbrev dktJ2_toArray_0 : List UInt8 := dkwJ2_toArray_0 ++ []
theorem dksJ2_toArray_0 : cJ2_toArray.data.toList.drop 0 = dktJ2_toArray_0 := by decide +kernel
theorem dJ2_toArray_0 : decode cJ2_toArray 0 = .ok (.aload_n 0, 1) := dk_42 (dk_at dksJ2_toArray_0 0 rfl rfl)
theorem dJ2_toArray_1 : decode cJ2_toArray 1 = .ok (.getfield 9, 3) := dk_180 0 9 (dk_at dksJ2_toArray_0 1 rfl rfl)
theorem dJ2_toArray_4 : decode cJ2_toArray 4 = .ok (.aload_n 0, 1) := dk_42 (dk_at dksJ2_toArray_0 4 rfl rfl)
theorem dJ2_toArray_5 : decode cJ2_toArray 5 = .ok (.getfield 48, 3) := dk_180 0 48 (dk_at dksJ2_toArray_0 5 rfl rfl)
theorem dJ2_toArray_8 : decode cJ2_toArray 8 = .ok (.invokestatic 66, 3) := dk_184 0 66 (dk_at dksJ2_toArray_0 8 rfl rfl)
theorem dJ2_toArray_11 : decode cJ2_toArray 11 = .ok (.areturn, 1) := dk_176 (dk_at dksJ2_toArray_0 11 rfl rfl)
abbrev cJ2_iterator : ByteArray := prog_80_method_55_code
def yJ2_iterator : MethodName := ⟨RJ2, "iterator", "()Ljava/util/Iterator;"⟩
def dkwJ2_iterator_0 : List UInt8 := [187, 1, 11, 89, 42, 183, 1, 13, 176]
abbrev dktJ2_iterator_0 : List UInt8 := dkwJ2_iterator_0 ++ []
theorem dksJ2_iterator_0 : cJ2_iterator.data.toList.drop 0 = dktJ2_iterator_0 := by decide +kernel
theorem dJ2_iterator_0 : decode cJ2_iterator 0 = .ok (.new 267, 3) := dk_187 1 11 (dk_at dksJ2_iterator_0 0 rfl rfl)
theorem dJ2_iterator_3 : decode cJ2_iterator 3 = .ok (.dup, 1) := dk_89 (dk_at dksJ2_iterator_0 3 rfl rfl)
theorem dJ2_iterator_4 : decode cJ2_iterator 4 = .ok (.aload_n 0, 1) := dk_42 (dk_at dksJ2_iterator_0 4 rfl rfl)
theorem dJ2_iterator_5 : decode cJ2_iterator 5 = .ok (.invokespecial 269, 3) := dk_183 1 13 (dk_at dksJ2_iterator_0 5 rfl rfl)
theorem dJ2_iterator_8 : decode cJ2_iterator 8 = .ok (.areturn, 1) := dk_176 (dk_at dksJ2_iterator_0 8 rfl rfl)
abbrev cJ2_set : ByteArray := prog_80_method_23_code
def yJ2_set : MethodName := ⟨RJ2, "set", "(ILjava/lang/Object;)Ljava/lang/Object;"⟩
def dkwJ2_set_0 : List UInt8 := [27, 42, 180, 0, 48, 184, 0, 118, 87, 42, 27, 182, 0, 123, 78, 42, 180, 0, 9, 27, 44, 83, 45, 176]
abbrev dktJ2_set_0 : List UInt8 := dkwJ2_set_0 ++ []
theorem dksJ2_set_0 : cJ2_set.data.toList.drop 0 = dktJ2_set_0 := by decide +kernel
theorem dJ2_set_0 : decode cJ2_set 0 = .ok (.iload_n 1, 1) := dk_27 (dk_at dksJ2_set_0 0 rfl rfl)
theorem dJ2_set_1 : decode cJ2_set 1 = .ok (.aload_n 0, 1) := dk_42 (dk_at dksJ2_set_0 1 rfl rfl)
theorem dJ2_set_2 : decode cJ2_set 2 = .ok (.getfield 48, 3) := dk_180 0 48 (dk_at dksJ2_set_0 2 rfl rfl)
theorem dJ2_set_5 : decode cJ2_set 5 = .ok (.invokestatic 118, 3) := dk_184 0 118 (dk_at dksJ2_set_0 5 rfl rfl)
theorem dJ2_set_8 : decode cJ2_set 8 = .ok (.pop, 1) := dk_87 (dk_at dksJ2_set_0 8 rfl rfl)
theorem dJ2_set_9 : decode cJ2_set 9 = .ok (.aload_n 0, 1) := dk_42 (dk_at dksJ2_set_0 9 rfl rfl)
theorem dJ2_set_10 : decode cJ2_set 10 = .ok (.iload_n 1, 1) := dk_27 (dk_at dksJ2_set_0 10 rfl rfl)
theorem dJ2_set_11 : decode cJ2_set 11 = .ok (.invokevirtual 123, 3) := dk_182 0 123 (dk_at dksJ2_set_0 11 rfl rfl)
theorem dJ2_set_14 : decode cJ2_set 14 = .ok (.astore_n 3, 1) := dk_78 (dk_at dksJ2_set_0 14 rfl rfl)
theorem dJ2_set_15 : decode cJ2_set 15 = .ok (.aload_n 0, 1) := dk_42 (dk_at dksJ2_set_0 15 rfl rfl)
theorem dJ2_set_16 : decode cJ2_set 16 = .ok (.getfield 9, 3) := dk_180 0 9 (dk_at dksJ2_set_0 16 rfl rfl)
theorem dJ2_set_19 : decode cJ2_set 19 = .ok (.iload_n 1, 1) := dk_27 (dk_at dksJ2_set_0 19 rfl rfl)
theorem dJ2_set_20 : decode cJ2_set 20 = .ok (.aload_n 2, 1) := dk_44 (dk_at dksJ2_set_0 20 rfl rfl)
theorem dJ2_set_21 : decode cJ2_set 21 = .ok (.aastore, 1) := dk_83 (dk_at dksJ2_set_0 21 rfl rfl)
theorem dJ2_set_22 : decode cJ2_set 22 = .ok (.aload_n 3, 1) := dk_45 (dk_at dksJ2_set_0 22 rfl rfl)
theorem dJ2_set_23 : decode cJ2_set 23 = .ok (.areturn, 1) := dk_176 (dk_at dksJ2_set_0 23 rfl rfl)
theorem q105 : (Jvm.Cond.initialized "java/util/ArrayList") ∈ lw_all := lw_g (lw_at lw_m1 6 rfl) rfl
theorem q197 : (Jvm.Cond.instantiable "java/util/ArrayList" (3 : Nat)) ∈ lw_all := lw_g (lw_at lw_m1 98 rfl) rfl
theorem q199 : (Jvm.Cond.instanceMethod ({ cls := "java/util/ArrayList", name := "<init>", desc := "()V" } : Jvm.MethodName)) ∈ lw_all := lw_g (lw_at lw_m1 100 rfl) rfl
theorem q200 : (Jvm.Cond.code ({ cls := "java/util/ArrayList", name := "<init>", desc := "()V" } : Jvm.MethodName) prog_80_method_2_code (1 : Nat) (Option.none : Option Jvm.ClassFile.FieldType)) ∈ lw_all := lw_g (lw_at lw_m1 101 rfl) rfl
theorem q201 : (Jvm.Cond.methodLink "java/util/ArrayList" (1 : Nat) ({ cls := "java/util/AbstractList", name := "<init>", desc := "()V" } : Jvm.MethodName)) ∈ lw_all := lw_g (lw_at lw_m1 102 rfl) rfl
theorem q208 : (Jvm.Cond.fieldLink "java/util/ArrayList" (39 : Nat) "java/util/ArrayList" "DEFAULTCAPACITY_EMPTY_ELEMENTDATA" "[Ljava/lang/Object;") ∈ lw_all := lw_g (lw_at lw_m1 109 rfl) rfl
theorem q209 : (Jvm.Cond.laysStatic "java/util/ArrayList" "DEFAULTCAPACITY_EMPTY_ELEMENTDATA" "[Ljava/lang/Object;") ∈ lw_tbl := lw_at lw_m1 110 rfl
theorem q210 : (Jvm.Cond.fieldLink "java/util/ArrayList" (9 : Nat) "java/util/ArrayList" "elementData" "[Ljava/lang/Object;") ∈ lw_all := lw_g (lw_at lw_m1 111 rfl) rfl
theorem q213 : (Jvm.Cond.fieldLink "java/util/ArrayList" (48 : Nat) "java/util/ArrayList" "size" "I") ∈ lw_all := lw_g (lw_at lw_m1 114 rfl) rfl
theorem q216 : (Jvm.Cond.sameField "java/util/ArrayList" "java/util/AbstractList" "modCount" "I") ∈ lw_all := lw_g (lw_at lw_m1 117 rfl) rfl
theorem q217 : (Jvm.Cond.fieldLink "java/util/ArrayList" (63 : Nat) "java/util/ArrayList" "modCount" "I") ∈ lw_all := lw_g (lw_at lw_m1 118 rfl) rfl
theorem q218 : (Jvm.Cond.lays "java/util/ArrayList" "java/util/ArrayList" "elementData" "[Ljava/lang/Object;") ∈ lw_all := lw_g (lw_at lw_m1 119 rfl) rfl
theorem q219 : (Jvm.Cond.soleField "java/util/ArrayList" "elementData") ∈ lw_all := lw_g (lw_at lw_m1 120 rfl) rfl
theorem q220 : (Jvm.Cond.lays "java/util/ArrayList" "java/util/ArrayList" "size" "I") ∈ lw_all := lw_g (lw_at lw_m1 121 rfl) rfl
theorem q221 : (Jvm.Cond.soleField "java/util/ArrayList" "size") ∈ lw_all := lw_g (lw_at lw_m1 122 rfl) rfl
theorem q222 : (Jvm.Cond.lays "java/util/ArrayList" "java/util/AbstractList" "modCount" "I") ∈ lw_all := lw_g (lw_at lw_m1 123 rfl) rfl
theorem q224 : (Jvm.Cond.superclass "java/util/ArrayList" "java/util/AbstractList") ∈ lw_all := lw_g (lw_at lw_m1 125 rfl) rfl
theorem q319 : (Jvm.Cond.instanceMethod ({ cls := "java/util/ArrayList", name := "size", desc := "()I" } : Jvm.MethodName)) ∈ lw_all := lw_g (lw_at lw_m1 220 rfl) rfl
theorem q320 : (Jvm.Cond.selects "java/util/ArrayList" ({ cls := "java/util/ArrayList", name := "size", desc := "()I" } : Jvm.MethodName) ({ cls := "java/util/ArrayList", name := "size", desc := "()I" } : Jvm.MethodName)) ∈ lw_all := lw_g (lw_at lw_m1 221 rfl) rfl
theorem q321 : (Jvm.Cond.code ({ cls := "java/util/ArrayList", name := "size", desc := "()I" } : Jvm.MethodName) prog_80_method_8_code (1 : Nat) (Option.some Jvm.ClassFile.FieldType.int)) ∈ lw_all := lw_g (lw_at lw_m1 222 rfl) rfl
theorem q763 : (Jvm.Cond.instanceMethod ({ cls := "java/util/ArrayList", name := "add", desc := "(Ljava/lang/Object;)Z" } : Jvm.MethodName)) ∈ lw_all := lw_g (lw_at lw_m3 184 rfl) rfl
theorem q764 : (Jvm.Cond.selects "java/util/ArrayList" ({ cls := "java/util/ArrayList", name := "add", desc := "(Ljava/lang/Object;)Z" } : Jvm.MethodName) ({ cls := "java/util/ArrayList", name := "add", desc := "(Ljava/lang/Object;)Z" } : Jvm.MethodName)) ∈ lw_all := lw_g (lw_at lw_m3 185 rfl) rfl
theorem q765 : (Jvm.Cond.code ({ cls := "java/util/ArrayList", name := "add", desc := "(Ljava/lang/Object;)Z" } : Jvm.MethodName) prog_80_method_25_code (2 : Nat) (Option.some Jvm.ClassFile.FieldType.boolean)) ∈ lw_all := lw_g (lw_at lw_m3 186 rfl) rfl
theorem q766 : (Jvm.Cond.methodLink "java/util/ArrayList" (131 : Nat) ({ cls := "java/util/ArrayList", name := "add", desc := "(Ljava/lang/Object;[Ljava/lang/Object;I)V" } : Jvm.MethodName)) ∈ lw_all := lw_g (lw_at lw_m3 187 rfl) rfl
theorem q767 : (Jvm.Cond.privateMethod ({ cls := "java/util/ArrayList", name := "add", desc := "(Ljava/lang/Object;[Ljava/lang/Object;I)V" } : Jvm.MethodName)) ∈ lw_tbl := lw_at lw_m3 188 rfl
theorem q768 : (Jvm.Cond.instanceMethod ({ cls := "java/util/ArrayList", name := "add", desc := "(Ljava/lang/Object;[Ljava/lang/Object;I)V" } : Jvm.MethodName)) ∈ lw_all := lw_g (lw_at lw_m3 189 rfl) rfl
theorem q769 : (Jvm.Cond.code ({ cls := "java/util/ArrayList", name := "add", desc := "(Ljava/lang/Object;[Ljava/lang/Object;I)V" } : Jvm.MethodName) prog_80_method_24_code (4 : Nat) (Option.none : Option Jvm.ClassFile.FieldType)) ∈ lw_all := lw_g (lw_at lw_m3 190 rfl) rfl
theorem q770 : (Jvm.Cond.methodLink "java/util/ArrayList" (129 : Nat) ({ cls := "java/util/ArrayList", name := "grow", desc := "()[Ljava/lang/Object;" } : Jvm.MethodName)) ∈ lw_all := lw_g (lw_at lw_m3 191 rfl) rfl
theorem q771 : (Jvm.Cond.privateMethod ({ cls := "java/util/ArrayList", name := "grow", desc := "()[Ljava/lang/Object;" } : Jvm.MethodName)) ∈ lw_tbl := lw_at lw_m3 192 rfl
theorem q772 : (Jvm.Cond.instanceMethod ({ cls := "java/util/ArrayList", name := "grow", desc := "()[Ljava/lang/Object;" } : Jvm.MethodName)) ∈ lw_all := lw_g (lw_at lw_m3 193 rfl) rfl
theorem q773 : (Jvm.Cond.code ({ cls := "java/util/ArrayList", name := "grow", desc := "()[Ljava/lang/Object;" } : Jvm.MethodName) prog_80_method_7_code (1 : Nat) (Option.some (Jvm.ClassFile.FieldType.array (Jvm.ClassFile.FieldType.object "java/lang/Object")))) ∈ lw_all := lw_g (lw_at lw_m3 194 rfl) rfl
theorem q774 : (Jvm.Cond.methodLink "java/util/ArrayList" (69 : Nat) ({ cls := "java/util/ArrayList", name := "grow", desc := "(I)[Ljava/lang/Object;" } : Jvm.MethodName)) ∈ lw_all := lw_g (lw_at lw_m3 195 rfl) rfl
theorem q775 : (Jvm.Cond.privateMethod ({ cls := "java/util/ArrayList", name := "grow", desc := "(I)[Ljava/lang/Object;" } : Jvm.MethodName)) ∈ lw_tbl := lw_at lw_m3 196 rfl
theorem q776 : (Jvm.Cond.instanceMethod ({ cls := "java/util/ArrayList", name := "grow", desc := "(I)[Ljava/lang/Object;" } : Jvm.MethodName)) ∈ lw_all := lw_g (lw_at lw_m3 197 rfl) rfl
theorem q777 : (Jvm.Cond.code ({ cls := "java/util/ArrayList", name := "grow", desc := "(I)[Ljava/lang/Object;" } : Jvm.MethodName) prog_80_method_6_code (4 : Nat) (Option.some (Jvm.ClassFile.FieldType.array (Jvm.ClassFile.FieldType.object "java/lang/Object")))) ∈ lw_all := lw_g (lw_at lw_m3 198 rfl) rfl
theorem q778 : (Jvm.Cond.methodLink "java/util/ArrayList" (73 : Nat) ({ cls := "jdk/internal/util/ArraysSupport", name := "newLength", desc := "(III)I" } : Jvm.MethodName)) ∈ lw_all := lw_g (lw_at lw_m3 199 rfl) rfl
theorem q779 : (Jvm.Cond.methodLink "java/util/ArrayList" (66 : Nat) ({ cls := "java/util/Arrays", name := "copyOf", desc := "([Ljava/lang/Object;I)[Ljava/lang/Object;" } : Jvm.MethodName)) ∈ lw_all := lw_g (lw_at lw_m3 200 rfl) rfl
theorem q834 : (Jvm.Cond.selects "java/util/ArrayList" ({ cls := "java/lang/Object", name := "getClass", desc := "()Ljava/lang/Class;" } : Jvm.MethodName) ({ cls := "java/lang/Object", name := "getClass", desc := "()Ljava/lang/Class;" } : Jvm.MethodName)) ∈ lw_all := lw_g (lw_at lw_m4 15 rfl) rfl
theorem q848 : (Jvm.Cond.methodLink "java/util/ArrayList" (79 : Nat) ({ cls := "java/lang/Math", name := "max", desc := "(II)I" } : Jvm.MethodName)) ∈ lw_all := lw_g (lw_at lw_m4 29 rfl) rfl
theorem q849 : (Jvm.Cond.classLink "java/util/ArrayList" (7 : Nat) "java/lang/Object") ∈ lw_all := lw_g (lw_at lw_m4 30 rfl) rfl
theorem q930 : (Jvm.Cond.castable "java/util/ArrayList" "java/util/List") ∈ lw_tbl := lw_at lw_m4 111 rfl
theorem q931 : (Jvm.Cond.selects "java/util/ArrayList" ({ cls := "java/util/List", name := "get", desc := "(I)Ljava/lang/Object;" } : Jvm.MethodName) ({ cls := "java/util/ArrayList", name := "get", desc := "(I)Ljava/lang/Object;" } : Jvm.MethodName)) ∈ lw_all := lw_g (lw_at lw_m4 112 rfl) rfl
theorem q932 : (Jvm.Cond.unhidden "java/util/ArrayList" "get" "(I)Ljava/lang/Object;") ∈ lw_tbl := lw_at lw_m4 113 rfl
theorem q933 : (Jvm.Cond.instanceMethod ({ cls := "java/util/ArrayList", name := "get", desc := "(I)Ljava/lang/Object;" } : Jvm.MethodName)) ∈ lw_all := lw_g (lw_at lw_m4 114 rfl) rfl
theorem q934 : (Jvm.Cond.publicMethod ({ cls := "java/util/ArrayList", name := "get", desc := "(I)Ljava/lang/Object;" } : Jvm.MethodName)) ∈ lw_tbl := lw_at lw_m4 115 rfl
theorem q935 : (Jvm.Cond.code ({ cls := "java/util/ArrayList", name := "get", desc := "(I)Ljava/lang/Object;" } : Jvm.MethodName) prog_80_method_20_code (2 : Nat) (Option.some (Jvm.ClassFile.FieldType.object "java/lang/Object"))) ∈ lw_all := lw_g (lw_at lw_m4 116 rfl) rfl
theorem q936 : (Jvm.Cond.methodLink "java/util/ArrayList" (118 : Nat) ({ cls := "java/util/Objects", name := "checkIndex", desc := "(II)I" } : Jvm.MethodName)) ∈ lw_all := lw_g (lw_at lw_m4 117 rfl) rfl
theorem q940 : (Jvm.Cond.methodLink "java/util/ArrayList" (123 : Nat) ({ cls := "java/util/ArrayList", name := "elementData", desc := "(I)Ljava/lang/Object;" } : Jvm.MethodName)) ∈ lw_all := lw_g (lw_at lw_m4 121 rfl) rfl
theorem q941 : (Jvm.Cond.instanceMethod ({ cls := "java/util/ArrayList", name := "elementData", desc := "(I)Ljava/lang/Object;" } : Jvm.MethodName)) ∈ lw_all := lw_g (lw_at lw_m4 122 rfl) rfl
theorem q942 : (Jvm.Cond.selects "java/util/ArrayList" ({ cls := "java/util/ArrayList", name := "elementData", desc := "(I)Ljava/lang/Object;" } : Jvm.MethodName) ({ cls := "java/util/ArrayList", name := "elementData", desc := "(I)Ljava/lang/Object;" } : Jvm.MethodName)) ∈ lw_all := lw_g (lw_at lw_m4 123 rfl) rfl
theorem q943 : (Jvm.Cond.code ({ cls := "java/util/ArrayList", name := "elementData", desc := "(I)Ljava/lang/Object;" } : Jvm.MethodName) prog_80_method_18_code (2 : Nat) (Option.some (Jvm.ClassFile.FieldType.object "java/lang/Object"))) ∈ lw_all := lw_g (lw_at lw_m4 124 rfl) rfl
theorem q2092 : (Jvm.Cond.instanceMethod ({ cls := "java/util/ArrayList", name := "clear", desc := "()V" } : Jvm.MethodName)) ∈ lw_all := lw_g (lw_at lw_m9 73 rfl) rfl
theorem q2093 : (Jvm.Cond.selects "java/util/ArrayList" ({ cls := "java/util/ArrayList", name := "clear", desc := "()V" } : Jvm.MethodName) ({ cls := "java/util/ArrayList", name := "clear", desc := "()V" } : Jvm.MethodName)) ∈ lw_all := lw_g (lw_at lw_m9 74 rfl) rfl
theorem q2094 : (Jvm.Cond.code ({ cls := "java/util/ArrayList", name := "clear", desc := "()V" } : Jvm.MethodName) prog_80_method_40_code (4 : Nat) (Option.none : Option Jvm.ClassFile.FieldType)) ∈ lw_all := lw_g (lw_at lw_m9 75 rfl) rfl
theorem q2096 : (Jvm.Cond.instanceMethod ({ cls := "java/util/ArrayList", name := "addAll", desc := "(Ljava/util/Collection;)Z" } : Jvm.MethodName)) ∈ lw_all := lw_g (lw_at lw_m9 77 rfl) rfl
theorem q2097 : (Jvm.Cond.selects "java/util/ArrayList" ({ cls := "java/util/ArrayList", name := "addAll", desc := "(Ljava/util/Collection;)Z" } : Jvm.MethodName) ({ cls := "java/util/ArrayList", name := "addAll", desc := "(Ljava/util/Collection;)Z" } : Jvm.MethodName)) ∈ lw_all := lw_g (lw_at lw_m9 78 rfl) rfl
theorem q2098 : (Jvm.Cond.code ({ cls := "java/util/ArrayList", name := "addAll", desc := "(Ljava/util/Collection;)Z" } : Jvm.MethodName) prog_80_method_41_code (6 : Nat) (Option.some Jvm.ClassFile.FieldType.boolean)) ∈ lw_all := lw_g (lw_at lw_m9 79 rfl) rfl
theorem q2099 : (Jvm.Cond.interfaceEntry "java/util/ArrayList" (42 : Nat)) ∈ lw_tbl := lw_at lw_m9 80 rfl
theorem q2100 : (Jvm.Cond.methodLink "java/util/ArrayList" (42 : Nat) ({ cls := "java/util/Collection", name := "toArray", desc := "()[Ljava/lang/Object;" } : Jvm.MethodName)) ∈ lw_all := lw_g (lw_at lw_m9 81 rfl) rfl
theorem q2103 : (Jvm.Cond.castable "java/util/ArrayList" "java/util/Collection") ∈ lw_tbl := lw_at lw_m9 84 rfl
theorem q2104 : (Jvm.Cond.selects "java/util/ArrayList" ({ cls := "java/util/Collection", name := "toArray", desc := "()[Ljava/lang/Object;" } : Jvm.MethodName) ({ cls := "java/util/ArrayList", name := "toArray", desc := "()[Ljava/lang/Object;" } : Jvm.MethodName)) ∈ lw_all := lw_g (lw_at lw_m9 85 rfl) rfl
theorem q2105 : (Jvm.Cond.unhidden "java/util/ArrayList" "toArray" "()[Ljava/lang/Object;") ∈ lw_tbl := lw_at lw_m9 86 rfl
theorem q2106 : (Jvm.Cond.instanceMethod ({ cls := "java/util/ArrayList", name := "toArray", desc := "()[Ljava/lang/Object;" } : Jvm.MethodName)) ∈ lw_all := lw_g (lw_at lw_m9 87 rfl) rfl
theorem q2107 : (Jvm.Cond.publicMethod ({ cls := "java/util/ArrayList", name := "toArray", desc := "()[Ljava/lang/Object;" } : Jvm.MethodName)) ∈ lw_tbl := lw_at lw_m9 88 rfl
theorem q2108 : (Jvm.Cond.code ({ cls := "java/util/ArrayList", name := "toArray", desc := "()[Ljava/lang/Object;" } : Jvm.MethodName) prog_80_method_16_code (1 : Nat) (Option.some (Jvm.ClassFile.FieldType.array (Jvm.ClassFile.FieldType.object "java/lang/Object")))) ∈ lw_all := lw_g (lw_at lw_m9 89 rfl) rfl
theorem q2109 : (Jvm.Cond.methodLink "java/util/ArrayList" (112 : Nat) ({ cls := "java/lang/System", name := "arraycopy", desc := "(Ljava/lang/Object;ILjava/lang/Object;II)V" } : Jvm.MethodName)) ∈ lw_all := lw_g (lw_at lw_m9 90 rfl) rfl
theorem q2116 : (Jvm.Cond.instanceMethod ({ cls := "java/util/ArrayList", name := "iterator", desc := "()Ljava/util/Iterator;" } : Jvm.MethodName)) ∈ lw_all := lw_g (lw_at lw_m9 97 rfl) rfl
theorem q2117 : (Jvm.Cond.selects "java/util/ArrayList" ({ cls := "java/util/ArrayList", name := "iterator", desc := "()Ljava/util/Iterator;" } : Jvm.MethodName) ({ cls := "java/util/ArrayList", name := "iterator", desc := "()Ljava/util/Iterator;" } : Jvm.MethodName)) ∈ lw_all := lw_g (lw_at lw_m9 98 rfl) rfl
theorem q2118 : (Jvm.Cond.code ({ cls := "java/util/ArrayList", name := "iterator", desc := "()Ljava/util/Iterator;" } : Jvm.MethodName) prog_80_method_55_code (1 : Nat) (Option.some (Jvm.ClassFile.FieldType.object "java/util/Iterator"))) ∈ lw_all := lw_g (lw_at lw_m9 99 rfl) rfl
theorem q2119 : (Jvm.Cond.classLink "java/util/ArrayList" (267 : Nat) "java/util/ArrayList$Itr") ∈ lw_all := lw_g (lw_at lw_m9 100 rfl) rfl
theorem q2121 : (Jvm.Cond.methodLink "java/util/ArrayList" (269 : Nat) ({ cls := "java/util/ArrayList$Itr", name := "<init>", desc := "(Ljava/util/ArrayList;)V" } : Jvm.MethodName)) ∈ lw_all := lw_g (lw_at lw_m9 102 rfl) rfl
theorem q2317 : (Jvm.Cond.instanceMethod ({ cls := "java/util/ArrayList", name := "set", desc := "(ILjava/lang/Object;)Ljava/lang/Object;" } : Jvm.MethodName)) ∈ lw_all := lw_g (lw_at lw_m10 58 rfl) rfl
theorem q2318 : (Jvm.Cond.selects "java/util/ArrayList" ({ cls := "java/util/ArrayList", name := "set", desc := "(ILjava/lang/Object;)Ljava/lang/Object;" } : Jvm.MethodName) ({ cls := "java/util/ArrayList", name := "set", desc := "(ILjava/lang/Object;)Ljava/lang/Object;" } : Jvm.MethodName)) ∈ lw_all := lw_g (lw_at lw_m10 59 rfl) rfl
theorem q2319 : (Jvm.Cond.code ({ cls := "java/util/ArrayList", name := "set", desc := "(ILjava/lang/Object;)Ljava/lang/Object;" } : Jvm.MethodName) prog_80_method_23_code (4 : Nat) (Option.some (Jvm.ClassFile.FieldType.object "java/lang/Object"))) ∈ lw_all := lw_g (lw_at lw_m10 60 rfl) rfl
theorem q3377 : (Jvm.Cond.selects "java/util/ArrayList" ({ cls := "java/util/ArrayList", name := "get", desc := "(I)Ljava/lang/Object;" } : Jvm.MethodName) ({ cls := "java/util/ArrayList", name := "get", desc := "(I)Ljava/lang/Object;" } : Jvm.MethodName)) ∈ lw_all := lw_g (lw_at lw_m14 158 rfl) rfl
theorem q3405 : (Jvm.Cond.castable "java/util/ArrayList" "java/lang/Object") ∈ lw_tbl := lw_at lw_m14 186 rfl
theorem in_J2 : ∀ w ∈ wsJ20, w ∈ lw_all := lw_in wsJ20 [222, 218, 220] (by decide +kernel) (by decide +kernel)

/-! java/lang/Throwable -/
def RJ3 : String := "java/lang/Throwable"
def TJ3 : u_T := fun k => match k with
  | 0 => ("java/lang/Throwable", "cause", "Ljava/lang/Throwable;", false)
  | 1 => ("java/lang/Throwable", "stackTrace", "[Ljava/lang/StackTraceElement;", false)
  | 2 => ("java/lang/Throwable", "suppressedExceptions", "Ljava/util/List;", false)
  | 3 => ("java/lang/Throwable", "detailMessage", "Ljava/lang/String;", false)
  | _ => ("java/lang/Throwable", "backtrace", "Ljava/lang/Object;", false)
def tyJ3 : Nat → FieldType := fun k => match k with
  | 0 => .object "java/lang/Throwable"
  | 1 => .array (.object "java/lang/StackTraceElement")
  | 2 => .object "java/util/List"
  | 3 => .object "java/lang/String"
  | _ => .object "java/lang/Object"
abbrev wsJ30 : List Cond := u_ws RJ3 TJ3 5
theorem nmJ3 : ∀ a, a < 5 → ∀ b, b < 5 → a ≠ b → (TJ3 a).2.1 ≠ (TJ3 b).2.1 := by decide +kernel
theorem tyJ3_ok : ∀ k, k < 5 → parseFieldDescriptor (TJ3 k).2.2.1 = some (tyJ3 k) := by decide +kernel
abbrev cJ3_init : ByteArray := prog_74_method_1_code
def yJ3_init : MethodName := ⟨RJ3, "<init>", "()V"⟩
def dkwJ3_init_1 : List UInt8 := [182, 0, 27, 87, 177]
abbrev dktJ3_init_1 : List UInt8 := dkwJ3_init_1 ++ []
def dkwJ3_init_0 : List UInt8 := [42, 183, 0, 1, 42, 42, 181, 0, 7, 42, 178, 0, 13, 181, 0, 17, 42, 178, 0, 20, 181, 0, 24, 42]
abbrev dktJ3_init_0 : List UInt8 := dkwJ3_init_0 ++ dktJ3_init_1
theorem dksJ3_init_0 : cJ3_init.data.toList.drop 0 = dktJ3_init_0 := by decide +kernel
theorem dksJ3_init_1 : cJ3_init.data.toList.drop 24 = dktJ3_init_1 := dk_seg dksJ3_init_0 24 rfl rfl
theorem dJ3_init_0 : decode cJ3_init 0 = .ok (.aload_n 0, 1) := dk_42 (dk_at dksJ3_init_0 0 rfl rfl)
theorem dJ3_init_1 : decode cJ3_init 1 = .ok (.invokespecial 1, 3) := dk_183 0 1 (dk_at dksJ3_init_0 1 rfl rfl)
theorem dJ3_init_4 : decode cJ3_init 4 = .ok (.aload_n 0, 1) := dk_42 (dk_at dksJ3_init_0 4 rfl rfl)
theorem dJ3_init_5 : decode cJ3_init 5 = .ok (.aload_n 0, 1) := dk_42 (dk_at dksJ3_init_0 5 rfl rfl)
theorem dJ3_init_6 : decode cJ3_init 6 = .ok (.putfield 7, 3) := dk_181 0 7 (dk_at dksJ3_init_0 6 rfl rfl)
theorem dJ3_init_9 : decode cJ3_init 9 = .ok (.aload_n 0, 1) := dk_42 (dk_at dksJ3_init_0 9 rfl rfl)
theorem dJ3_init_10 : decode cJ3_init 10 = .ok (.getstatic 13, 3) := dk_178 0 13 (dk_at dksJ3_init_0 10 rfl rfl)
theorem dJ3_init_13 : decode cJ3_init 13 = .ok (.putfield 17, 3) := dk_181 0 17 (dk_at dksJ3_init_0 13 rfl rfl)
theorem dJ3_init_16 : decode cJ3_init 16 = .ok (.aload_n 0, 1) := dk_42 (dk_at dksJ3_init_0 16 rfl rfl)
theorem dJ3_init_17 : decode cJ3_init 17 = .ok (.getstatic 20, 3) := dk_178 0 20 (dk_at dksJ3_init_0 17 rfl rfl)
theorem dJ3_init_20 : decode cJ3_init 20 = .ok (.putfield 24, 3) := dk_181 0 24 (dk_at dksJ3_init_0 20 rfl rfl)
theorem dJ3_init_23 : decode cJ3_init 23 = .ok (.aload_n 0, 1) := dk_42 (dk_at dksJ3_init_0 23 rfl rfl)
theorem dJ3_init_24 : decode cJ3_init 24 = .ok (.invokevirtual 27, 3) := dk_182 0 27 (dk_at dksJ3_init_1 0 rfl rfl)
theorem dJ3_init_27 : decode cJ3_init 27 = .ok (.pop, 1) := dk_87 (dk_at dksJ3_init_1 3 rfl rfl)
theorem dJ3_init_28 : decode cJ3_init 28 = .ok (.return_, 1) := dk_177 (dk_at dksJ3_init_1 4 rfl rfl)
abbrev cJ3_init_2 : ByteArray := prog_74_method_2_code
def yJ3_init_2 : MethodName := ⟨RJ3, "<init>", "(Ljava/lang/String;)V"⟩
def dkwJ3_init_2_1 : List UInt8 := [182, 0, 27, 87, 42, 43, 181, 0, 31, 177]
abbrev dktJ3_init_2_1 : List UInt8 := dkwJ3_init_2_1 ++ []
def dkwJ3_init_2_0 : List UInt8 := [42, 183, 0, 1, 42, 42, 181, 0, 7, 42, 178, 0, 13, 181, 0, 17, 42, 178, 0, 20, 181, 0, 24, 42]
abbrev dktJ3_init_2_0 : List UInt8 := dkwJ3_init_2_0 ++ dktJ3_init_2_1
theorem dksJ3_init_2_0 : cJ3_init_2.data.toList.drop 0 = dktJ3_init_2_0 := by decide +kernel
theorem dksJ3_init_2_1 : cJ3_init_2.data.toList.drop 24 = dktJ3_init_2_1 := dk_seg dksJ3_init_2_0 24 rfl rfl
theorem dJ3_init_2_0 : decode cJ3_init_2 0 = .ok (.aload_n 0, 1) := dk_42 (dk_at dksJ3_init_2_0 0 rfl rfl)
theorem dJ3_init_2_1 : decode cJ3_init_2 1 = .ok (.invokespecial 1, 3) := dk_183 0 1 (dk_at dksJ3_init_2_0 1 rfl rfl)
theorem dJ3_init_2_4 : decode cJ3_init_2 4 = .ok (.aload_n 0, 1) := dk_42 (dk_at dksJ3_init_2_0 4 rfl rfl)
theorem dJ3_init_2_5 : decode cJ3_init_2 5 = .ok (.aload_n 0, 1) := dk_42 (dk_at dksJ3_init_2_0 5 rfl rfl)
theorem dJ3_init_2_6 : decode cJ3_init_2 6 = .ok (.putfield 7, 3) := dk_181 0 7 (dk_at dksJ3_init_2_0 6 rfl rfl)
theorem dJ3_init_2_9 : decode cJ3_init_2 9 = .ok (.aload_n 0, 1) := dk_42 (dk_at dksJ3_init_2_0 9 rfl rfl)
theorem dJ3_init_2_10 : decode cJ3_init_2 10 = .ok (.getstatic 13, 3) := dk_178 0 13 (dk_at dksJ3_init_2_0 10 rfl rfl)
theorem dJ3_init_2_13 : decode cJ3_init_2 13 = .ok (.putfield 17, 3) := dk_181 0 17 (dk_at dksJ3_init_2_0 13 rfl rfl)
theorem dJ3_init_2_16 : decode cJ3_init_2 16 = .ok (.aload_n 0, 1) := dk_42 (dk_at dksJ3_init_2_0 16 rfl rfl)
theorem dJ3_init_2_17 : decode cJ3_init_2 17 = .ok (.getstatic 20, 3) := dk_178 0 20 (dk_at dksJ3_init_2_0 17 rfl rfl)
theorem dJ3_init_2_20 : decode cJ3_init_2 20 = .ok (.putfield 24, 3) := dk_181 0 24 (dk_at dksJ3_init_2_0 20 rfl rfl)
theorem dJ3_init_2_23 : decode cJ3_init_2 23 = .ok (.aload_n 0, 1) := dk_42 (dk_at dksJ3_init_2_0 23 rfl rfl)
theorem dJ3_init_2_24 : decode cJ3_init_2 24 = .ok (.invokevirtual 27, 3) := dk_182 0 27 (dk_at dksJ3_init_2_1 0 rfl rfl)
theorem dJ3_init_2_27 : decode cJ3_init_2 27 = .ok (.pop, 1) := dk_87 (dk_at dksJ3_init_2_1 3 rfl rfl)
theorem dJ3_init_2_28 : decode cJ3_init_2 28 = .ok (.aload_n 0, 1) := dk_42 (dk_at dksJ3_init_2_1 4 rfl rfl)
theorem dJ3_init_2_29 : decode cJ3_init_2 29 = .ok (.aload_n 1, 1) := dk_43 (dk_at dksJ3_init_2_1 5 rfl rfl)
theorem dJ3_init_2_30 : decode cJ3_init_2 30 = .ok (.putfield 31, 3) := dk_181 0 31 (dk_at dksJ3_init_2_1 6 rfl rfl)
theorem dJ3_init_2_33 : decode cJ3_init_2 33 = .ok (.return_, 1) := dk_177 (dk_at dksJ3_init_2_1 9 rfl rfl)
theorem q109 : (Jvm.Cond.initialized "java/lang/Throwable") ∈ lw_all := lw_g (lw_at lw_m1 10 rfl) rfl
theorem q526 : (Jvm.Cond.declares ({ cls := "java/lang/Throwable", name := "<init>", desc := "()V" } : Jvm.MethodName)) ∈ lw_tbl := lw_at lw_m2 187 rfl
theorem q527 : (Jvm.Cond.declares ({ cls := "java/lang/Throwable", name := "<init>", desc := "(Ljava/lang/String;)V" } : Jvm.MethodName)) ∈ lw_tbl := lw_at lw_m2 188 rfl
theorem q531 : (Jvm.Cond.lays "java/lang/Throwable" "java/lang/Throwable" "cause" "Ljava/lang/Throwable;") ∈ lw_all := lw_g (lw_at lw_m2 192 rfl) rfl
theorem q533 : (Jvm.Cond.lays "java/lang/Throwable" "java/lang/Throwable" "stackTrace" "[Ljava/lang/StackTraceElement;") ∈ lw_all := lw_g (lw_at lw_m2 194 rfl) rfl
theorem q535 : (Jvm.Cond.lays "java/lang/Throwable" "java/lang/Throwable" "suppressedExceptions" "Ljava/util/List;") ∈ lw_all := lw_g (lw_at lw_m2 196 rfl) rfl
theorem q537 : (Jvm.Cond.lays "java/lang/Throwable" "java/lang/Throwable" "detailMessage" "Ljava/lang/String;") ∈ lw_all := lw_g (lw_at lw_m2 198 rfl) rfl
theorem q539 : (Jvm.Cond.lays "java/lang/Throwable" "java/lang/Throwable" "backtrace" "Ljava/lang/Object;") ∈ lw_all := lw_g (lw_at lw_m2 200 rfl) rfl
theorem q540 : (Jvm.Cond.fieldLink "java/lang/Throwable" (198 : Nat) "java/lang/Throwable" "backtrace" "Ljava/lang/Object;") ∈ lw_all := lw_g (lw_at lw_m2 201 rfl) rfl
theorem q541 : (Jvm.Cond.superclass "java/lang/Throwable" "java/lang/Object") ∈ lw_all := lw_g (lw_at lw_m2 202 rfl) rfl
theorem q542 : (Jvm.Cond.instanceMethod ({ cls := "java/lang/Throwable", name := "<init>", desc := "()V" } : Jvm.MethodName)) ∈ lw_all := lw_g (lw_at lw_m2 203 rfl) rfl
theorem q543 : (Jvm.Cond.code ({ cls := "java/lang/Throwable", name := "<init>", desc := "()V" } : Jvm.MethodName) prog_74_method_1_code (1 : Nat) (Option.none : Option Jvm.ClassFile.FieldType)) ∈ lw_all := lw_g (lw_at lw_m2 204 rfl) rfl
theorem q544 : (Jvm.Cond.methodLink "java/lang/Throwable" (1 : Nat) ({ cls := "java/lang/Object", name := "<init>", desc := "()V" } : Jvm.MethodName)) ∈ lw_all := lw_g (lw_at lw_m2 205 rfl) rfl
theorem q545 : (Jvm.Cond.fieldLink "java/lang/Throwable" (13 : Nat) "java/lang/Throwable" "UNASSIGNED_STACK" "[Ljava/lang/StackTraceElement;") ∈ lw_all := lw_g (lw_at lw_m2 206 rfl) rfl
theorem q546 : (Jvm.Cond.laysStatic "java/lang/Throwable" "UNASSIGNED_STACK" "[Ljava/lang/StackTraceElement;") ∈ lw_tbl := lw_at lw_m2 207 rfl
theorem q547 : (Jvm.Cond.fieldLink "java/lang/Throwable" (20 : Nat) "java/lang/Throwable" "SUPPRESSED_SENTINEL" "Ljava/util/List;") ∈ lw_all := lw_g (lw_at lw_m2 208 rfl) rfl
theorem q548 : (Jvm.Cond.laysStatic "java/lang/Throwable" "SUPPRESSED_SENTINEL" "Ljava/util/List;") ∈ lw_tbl := lw_at lw_m2 209 rfl
theorem q549 : (Jvm.Cond.methodLink "java/lang/Throwable" (27 : Nat) ({ cls := "java/lang/Throwable", name := "fillInStackTrace", desc := "()Ljava/lang/Throwable;" } : Jvm.MethodName)) ∈ lw_all := lw_g (lw_at lw_m2 210 rfl) rfl
theorem q550 : (Jvm.Cond.instanceMethod ({ cls := "java/lang/Throwable", name := "fillInStackTrace", desc := "()Ljava/lang/Throwable;" } : Jvm.MethodName)) ∈ lw_all := lw_g (lw_at lw_m2 211 rfl) rfl
theorem q551 : (Jvm.Cond.sameMethod "java/lang/Throwable" "java/lang/Throwable" "fillInStackTrace" "()Ljava/lang/Throwable;") ∈ lw_all := lw_g (lw_at lw_m2 212 rfl) rfl
theorem q556 : (Jvm.Cond.codeSync ({ cls := "java/lang/Throwable", name := "fillInStackTrace", desc := "()Ljava/lang/Throwable;" } : Jvm.MethodName) prog_74_method_18_code (1 : Nat) (Option.some (Jvm.ClassFile.FieldType.object "java/lang/Throwable"))) ∈ lw_all := lw_g (lw_at lw_m2 217 rfl) rfl
theorem q557 : (Jvm.Cond.methodLink "java/lang/Throwable" (202 : Nat) ({ cls := "java/lang/Throwable", name := "fillInStackTrace", desc := "(I)Ljava/lang/Throwable;" } : Jvm.MethodName)) ∈ lw_all := lw_g (lw_at lw_m2 218 rfl) rfl
theorem q558 : (Jvm.Cond.privateMethod ({ cls := "java/lang/Throwable", name := "fillInStackTrace", desc := "(I)Ljava/lang/Throwable;" } : Jvm.MethodName)) ∈ lw_tbl := lw_at lw_m2 219 rfl
theorem q559 : (Jvm.Cond.instanceMethod ({ cls := "java/lang/Throwable", name := "fillInStackTrace", desc := "(I)Ljava/lang/Throwable;" } : Jvm.MethodName)) ∈ lw_all := lw_g (lw_at lw_m2 220 rfl) rfl
theorem q560 : (Jvm.Cond.instantiable "java/lang/Throwable" (6 : Nat)) ∈ lw_all := lw_g (lw_at lw_m2 221 rfl) rfl
theorem q561 : (Jvm.Cond.native ({ cls := "java/lang/Throwable", name := "fillInStackTrace", desc := "(I)Ljava/lang/Throwable;" } : Jvm.MethodName)) ∈ lw_all := lw_g (lw_at lw_m2 222 rfl) rfl
theorem q648 : (Jvm.Cond.instanceMethod ({ cls := "java/lang/Throwable", name := "<init>", desc := "(Ljava/lang/String;)V" } : Jvm.MethodName)) ∈ lw_all := lw_g (lw_at lw_m3 69 rfl) rfl
theorem q649 : (Jvm.Cond.code ({ cls := "java/lang/Throwable", name := "<init>", desc := "(Ljava/lang/String;)V" } : Jvm.MethodName) prog_74_method_2_code (2 : Nat) (Option.none : Option Jvm.ClassFile.FieldType)) ∈ lw_all := lw_g (lw_at lw_m3 70 rfl) rfl
theorem q650 : (Jvm.Cond.fieldLink "java/lang/Throwable" (198 : Nat) "java/lang/Throwable" "backtrace" "Ljava/lang/Object;") ∈ lw_all := lw_g (lw_at lw_m3 71 rfl) rfl
theorem q651 : (Jvm.Cond.fieldLink "java/lang/Throwable" (31 : Nat) "java/lang/Throwable" "detailMessage" "Ljava/lang/String;") ∈ lw_all := lw_g (lw_at lw_m3 72 rfl) rfl
theorem q652 : (Jvm.Cond.fieldLink "java/lang/Throwable" (7 : Nat) "java/lang/Throwable" "cause" "Ljava/lang/Throwable;") ∈ lw_all := lw_g (lw_at lw_m3 73 rfl) rfl
theorem q653 : (Jvm.Cond.fieldLink "java/lang/Throwable" (17 : Nat) "java/lang/Throwable" "stackTrace" "[Ljava/lang/StackTraceElement;") ∈ lw_all := lw_g (lw_at lw_m3 74 rfl) rfl
theorem q654 : (Jvm.Cond.fieldLink "java/lang/Throwable" (24 : Nat) "java/lang/Throwable" "suppressedExceptions" "Ljava/util/List;") ∈ lw_all := lw_g (lw_at lw_m3 75 rfl) rfl
theorem q655 : (Jvm.Cond.soleField "java/lang/Throwable" "backtrace") ∈ lw_all := lw_g (lw_at lw_m3 76 rfl) rfl
theorem q656 : (Jvm.Cond.soleField "java/lang/Throwable" "detailMessage") ∈ lw_all := lw_g (lw_at lw_m3 77 rfl) rfl
theorem q657 : (Jvm.Cond.soleField "java/lang/Throwable" "cause") ∈ lw_all := lw_g (lw_at lw_m3 78 rfl) rfl
theorem q658 : (Jvm.Cond.soleField "java/lang/Throwable" "stackTrace") ∈ lw_all := lw_g (lw_at lw_m3 79 rfl) rfl
theorem q660 : (Jvm.Cond.soleField "java/lang/Throwable" "depth") ∈ lw_all := lw_g (lw_at lw_m3 81 rfl) rfl
theorem q661 : (Jvm.Cond.soleField "java/lang/Throwable" "suppressedExceptions") ∈ lw_all := lw_g (lw_at lw_m3 82 rfl) rfl
theorem q3370 : (Jvm.Cond.sameMethod "java/lang/Throwable" "java/lang/Throwable" "fillInStackTrace" "(I)Ljava/lang/Throwable;") ∈ lw_all := lw_g (lw_at lw_m14 151 rfl) rfl
theorem q3456 : (Jvm.Cond.castable "java/lang/Throwable" "java/lang/Object") ∈ lw_tbl := lw_at lw_m14 237 rfl
theorem in_J3 : ∀ w ∈ wsJ30, w ∈ lw_all := lw_in wsJ30 [531, 533, 535, 537, 539] (by decide +kernel) (by decide +kernel)

/-! java/lang/Exception -/
def RJ4 : String := "java/lang/Exception"
abbrev cJ4_init : ByteArray := prog_57_method_2_code
def yJ4_init : MethodName := ⟨RJ4, "<init>", "(Ljava/lang/String;)V"⟩
def dkwJ4_init_0 : List UInt8 := [42, 43, 183, 0, 7, 177]
abbrev dktJ4_init_0 : List UInt8 := dkwJ4_init_0 ++ []
theorem dksJ4_init_0 : cJ4_init.data.toList.drop 0 = dktJ4_init_0 := by decide +kernel
theorem dJ4_init_0 : decode cJ4_init 0 = .ok (.aload_n 0, 1) := dk_42 (dk_at dksJ4_init_0 0 rfl rfl)
theorem dJ4_init_1 : decode cJ4_init 1 = .ok (.aload_n 1, 1) := dk_43 (dk_at dksJ4_init_0 1 rfl rfl)
theorem dJ4_init_2 : decode cJ4_init 2 = .ok (.invokespecial 7, 3) := dk_183 0 7 (dk_at dksJ4_init_0 2 rfl rfl)
theorem dJ4_init_5 : decode cJ4_init 5 = .ok (.return_, 1) := dk_177 (dk_at dksJ4_init_0 5 rfl rfl)
abbrev cJ4_init_2 : ByteArray := prog_57_method_1_code
def yJ4_init_2 : MethodName := ⟨RJ4, "<init>", "()V"⟩
theorem dJ4_init_2_0 : decode cJ4_init_2 0 = .ok (.aload_n 0, 1) := by decide +kernel
theorem dJ4_init_2_1 : decode cJ4_init_2 1 = .ok (.invokespecial 1, 3) := by decide +kernel
theorem dJ4_init_2_4 : decode cJ4_init_2 4 = .ok (.return_, 1) := by decide +kernel
theorem q110 : (Jvm.Cond.initialized "java/lang/Exception") ∈ lw_all := lw_g (lw_at lw_m1 11 rfl) rfl
theorem q524 : (Jvm.Cond.declares ({ cls := "java/lang/Exception", name := "<init>", desc := "()V" } : Jvm.MethodName)) ∈ lw_tbl := lw_at lw_m2 185 rfl
theorem q525 : (Jvm.Cond.declares ({ cls := "java/lang/Exception", name := "<init>", desc := "(Ljava/lang/String;)V" } : Jvm.MethodName)) ∈ lw_tbl := lw_at lw_m2 186 rfl
theorem q645 : (Jvm.Cond.instanceMethod ({ cls := "java/lang/Exception", name := "<init>", desc := "(Ljava/lang/String;)V" } : Jvm.MethodName)) ∈ lw_all := lw_g (lw_at lw_m3 66 rfl) rfl
theorem q646 : (Jvm.Cond.code ({ cls := "java/lang/Exception", name := "<init>", desc := "(Ljava/lang/String;)V" } : Jvm.MethodName) prog_57_method_2_code (2 : Nat) (Option.none : Option Jvm.ClassFile.FieldType)) ∈ lw_all := lw_g (lw_at lw_m3 67 rfl) rfl
theorem q647 : (Jvm.Cond.methodLink "java/lang/Exception" (7 : Nat) ({ cls := "java/lang/Throwable", name := "<init>", desc := "(Ljava/lang/String;)V" } : Jvm.MethodName)) ∈ lw_all := lw_g (lw_at lw_m3 68 rfl) rfl
theorem q978 : (Jvm.Cond.instanceMethod ({ cls := "java/lang/Exception", name := "<init>", desc := "()V" } : Jvm.MethodName)) ∈ lw_all := lw_g (lw_at lw_m4 159 rfl) rfl
theorem q979 : (Jvm.Cond.code ({ cls := "java/lang/Exception", name := "<init>", desc := "()V" } : Jvm.MethodName) prog_57_method_1_code (1 : Nat) (Option.none : Option Jvm.ClassFile.FieldType)) ∈ lw_all := lw_g (lw_at lw_m4 160 rfl) rfl
theorem q980 : (Jvm.Cond.methodLink "java/lang/Exception" (1 : Nat) ({ cls := "java/lang/Throwable", name := "<init>", desc := "()V" } : Jvm.MethodName)) ∈ lw_all := lw_g (lw_at lw_m4 161 rfl) rfl

/-! java/lang/RuntimeException -/
def RJ5 : String := "java/lang/RuntimeException"
abbrev cJ5_init : ByteArray := prog_67_method_2_code
def yJ5_init : MethodName := ⟨RJ5, "<init>", "(Ljava/lang/String;)V"⟩
def dkwJ5_init_0 : List UInt8 := [42, 43, 183, 0, 7, 177]
abbrev dktJ5_init_0 : List UInt8 := dkwJ5_init_0 ++ []
theorem dksJ5_init_0 : cJ5_init.data.toList.drop 0 = dktJ5_init_0 := by decide +kernel
theorem dJ5_init_0 : decode cJ5_init 0 = .ok (.aload_n 0, 1) := dk_42 (dk_at dksJ5_init_0 0 rfl rfl)
theorem dJ5_init_1 : decode cJ5_init 1 = .ok (.aload_n 1, 1) := dk_43 (dk_at dksJ5_init_0 1 rfl rfl)
theorem dJ5_init_2 : decode cJ5_init 2 = .ok (.invokespecial 7, 3) := dk_183 0 7 (dk_at dksJ5_init_0 2 rfl rfl)
theorem dJ5_init_5 : decode cJ5_init 5 = .ok (.return_, 1) := dk_177 (dk_at dksJ5_init_0 5 rfl rfl)
abbrev cJ5_init_2 : ByteArray := prog_67_method_1_code
def yJ5_init_2 : MethodName := ⟨RJ5, "<init>", "()V"⟩
theorem dJ5_init_2_0 : decode cJ5_init_2 0 = .ok (.aload_n 0, 1) := by decide +kernel
theorem dJ5_init_2_1 : decode cJ5_init_2 1 = .ok (.invokespecial 1, 3) := by decide +kernel
theorem dJ5_init_2_4 : decode cJ5_init_2 4 = .ok (.return_, 1) := by decide +kernel
theorem q111 : (Jvm.Cond.initialized "java/lang/RuntimeException") ∈ lw_all := lw_g (lw_at lw_m1 12 rfl) rfl
theorem q522 : (Jvm.Cond.declares ({ cls := "java/lang/RuntimeException", name := "<init>", desc := "()V" } : Jvm.MethodName)) ∈ lw_tbl := lw_at lw_m2 183 rfl
theorem q523 : (Jvm.Cond.declares ({ cls := "java/lang/RuntimeException", name := "<init>", desc := "(Ljava/lang/String;)V" } : Jvm.MethodName)) ∈ lw_tbl := lw_at lw_m2 184 rfl
theorem q642 : (Jvm.Cond.instanceMethod ({ cls := "java/lang/RuntimeException", name := "<init>", desc := "(Ljava/lang/String;)V" } : Jvm.MethodName)) ∈ lw_all := lw_g (lw_at lw_m3 63 rfl) rfl
theorem q643 : (Jvm.Cond.code ({ cls := "java/lang/RuntimeException", name := "<init>", desc := "(Ljava/lang/String;)V" } : Jvm.MethodName) prog_67_method_2_code (2 : Nat) (Option.none : Option Jvm.ClassFile.FieldType)) ∈ lw_all := lw_g (lw_at lw_m3 64 rfl) rfl
theorem q644 : (Jvm.Cond.methodLink "java/lang/RuntimeException" (7 : Nat) ({ cls := "java/lang/Exception", name := "<init>", desc := "(Ljava/lang/String;)V" } : Jvm.MethodName)) ∈ lw_all := lw_g (lw_at lw_m3 65 rfl) rfl
theorem q2454 : (Jvm.Cond.instanceMethod ({ cls := "java/lang/RuntimeException", name := "<init>", desc := "()V" } : Jvm.MethodName)) ∈ lw_all := lw_g (lw_at lw_m10 195 rfl) rfl
theorem q2455 : (Jvm.Cond.code ({ cls := "java/lang/RuntimeException", name := "<init>", desc := "()V" } : Jvm.MethodName) prog_67_method_1_code (1 : Nat) (Option.none : Option Jvm.ClassFile.FieldType)) ∈ lw_all := lw_g (lw_at lw_m10 196 rfl) rfl
theorem q2456 : (Jvm.Cond.methodLink "java/lang/RuntimeException" (1 : Nat) ({ cls := "java/lang/Exception", name := "<init>", desc := "()V" } : Jvm.MethodName)) ∈ lw_all := lw_g (lw_at lw_m10 197 rfl) rfl

/-! java/lang/IllegalStateException -/
def RJ6 : String := "java/lang/IllegalStateException"
def TJ6 : u_T := fun k => match k with
  | 0 => ("java/lang/Throwable", "cause", "Ljava/lang/Throwable;", false)
  | 1 => ("java/lang/Throwable", "stackTrace", "[Ljava/lang/StackTraceElement;", false)
  | 2 => ("java/lang/Throwable", "suppressedExceptions", "Ljava/util/List;", false)
  | 3 => ("java/lang/Throwable", "detailMessage", "Ljava/lang/String;", false)
  | 4 => ("java/lang/Throwable", "backtrace", "Ljava/lang/Object;", false)
  | _ => ("java/lang/Throwable", "depth", "I", false)
def tyJ6 : Nat → FieldType := fun k => match k with
  | 0 => .object "java/lang/Throwable"
  | 1 => .array (.object "java/lang/StackTraceElement")
  | 2 => .object "java/util/List"
  | 3 => .object "java/lang/String"
  | 4 => .object "java/lang/Object"
  | _ => .int
abbrev wsJ60 : List Cond := u_ws RJ6 TJ6 6
theorem nmJ6 : ∀ a, a < 6 → ∀ b, b < 6 → a ≠ b → (TJ6 a).2.1 ≠ (TJ6 b).2.1 := by decide +kernel
theorem tyJ6_ok : ∀ k, k < 6 → parseFieldDescriptor (TJ6 k).2.2.1 = some (tyJ6 k) := by decide +kernel
abbrev cJ6_init : ByteArray := prog_59_method_1_code
def yJ6_init : MethodName := ⟨RJ6, "<init>", "()V"⟩
theorem dJ6_init_0 : decode cJ6_init 0 = .ok (.aload_n 0, 1) := by decide +kernel
theorem dJ6_init_1 : decode cJ6_init 1 = .ok (.invokespecial 1, 3) := by decide +kernel
theorem dJ6_init_4 : decode cJ6_init 4 = .ok (.return_, 1) := by decide +kernel
theorem q112 : (Jvm.Cond.initialized "java/lang/IllegalStateException") ∈ lw_all := lw_g (lw_at lw_m1 13 rfl) rfl
theorem q554 : (Jvm.Cond.selects "java/lang/IllegalStateException" ({ cls := "java/lang/Throwable", name := "fillInStackTrace", desc := "()Ljava/lang/Throwable;" } : Jvm.MethodName) ({ cls := "java/lang/Throwable", name := "fillInStackTrace", desc := "()Ljava/lang/Throwable;" } : Jvm.MethodName)) ∈ lw_all := lw_g (lw_at lw_m2 215 rfl) rfl
theorem q828 : (Jvm.Cond.selects "java/lang/IllegalStateException" ({ cls := "java/lang/Object", name := "getClass", desc := "()Ljava/lang/Class;" } : Jvm.MethodName) ({ cls := "java/lang/Object", name := "getClass", desc := "()Ljava/lang/Class;" } : Jvm.MethodName)) ∈ lw_all := lw_g (lw_at lw_m4 9 rfl) rfl
theorem q1091 : (Jvm.Cond.selects "java/lang/IllegalStateException" ({ cls := "java/lang/Object", name := "hashCode", desc := "()I" } : Jvm.MethodName) ({ cls := "java/lang/Object", name := "hashCode", desc := "()I" } : Jvm.MethodName)) ∈ lw_all := lw_g (lw_at lw_m5 32 rfl) rfl
theorem q1208 : (Jvm.Cond.selects "java/lang/IllegalStateException" ({ cls := "java/lang/Object", name := "equals", desc := "(Ljava/lang/Object;)Z" } : Jvm.MethodName) ({ cls := "java/lang/Object", name := "equals", desc := "(Ljava/lang/Object;)Z" } : Jvm.MethodName)) ∈ lw_all := lw_g (lw_at lw_m5 149 rfl) rfl
theorem q2502 : (Jvm.Cond.instantiable "java/lang/IllegalStateException" (6 : Nat)) ∈ lw_all := lw_g (lw_at lw_m11 3 rfl) rfl
theorem q2503 : (Jvm.Cond.castable "java/lang/IllegalStateException" "java/lang/IllegalStateException") ∈ lw_tbl := lw_at lw_m11 4 rfl
theorem q2504 : (Jvm.Cond.selects "java/lang/IllegalStateException" ({ cls := "java/lang/Throwable", name := "fillInStackTrace", desc := "(I)Ljava/lang/Throwable;" } : Jvm.MethodName) ({ cls := "java/lang/Throwable", name := "fillInStackTrace", desc := "(I)Ljava/lang/Throwable;" } : Jvm.MethodName)) ∈ lw_all := lw_g (lw_at lw_m11 5 rfl) rfl
theorem q2505 : (Jvm.Cond.lays "java/lang/IllegalStateException" "java/lang/Throwable" "cause" "Ljava/lang/Throwable;") ∈ lw_all := lw_g (lw_at lw_m11 6 rfl) rfl
theorem q2506 : (Jvm.Cond.lays "java/lang/IllegalStateException" "java/lang/Throwable" "stackTrace" "[Ljava/lang/StackTraceElement;") ∈ lw_all := lw_g (lw_at lw_m11 7 rfl) rfl
theorem q2507 : (Jvm.Cond.lays "java/lang/IllegalStateException" "java/lang/Throwable" "suppressedExceptions" "Ljava/util/List;") ∈ lw_all := lw_g (lw_at lw_m11 8 rfl) rfl
theorem q2508 : (Jvm.Cond.lays "java/lang/IllegalStateException" "java/lang/Throwable" "detailMessage" "Ljava/lang/String;") ∈ lw_all := lw_g (lw_at lw_m11 9 rfl) rfl
theorem q2509 : (Jvm.Cond.lays "java/lang/IllegalStateException" "java/lang/Throwable" "backtrace" "Ljava/lang/Object;") ∈ lw_all := lw_g (lw_at lw_m11 10 rfl) rfl
theorem q2511 : (Jvm.Cond.instanceMethod ({ cls := "java/lang/IllegalStateException", name := "<init>", desc := "()V" } : Jvm.MethodName)) ∈ lw_all := lw_g (lw_at lw_m11 12 rfl) rfl
theorem q2512 : (Jvm.Cond.code ({ cls := "java/lang/IllegalStateException", name := "<init>", desc := "()V" } : Jvm.MethodName) prog_59_method_1_code (1 : Nat) (Option.none : Option Jvm.ClassFile.FieldType)) ∈ lw_all := lw_g (lw_at lw_m11 13 rfl) rfl
theorem q2513 : (Jvm.Cond.methodLink "java/lang/IllegalStateException" (1 : Nat) ({ cls := "java/lang/RuntimeException", name := "<init>", desc := "()V" } : Jvm.MethodName)) ∈ lw_all := lw_g (lw_at lw_m11 14 rfl) rfl
theorem q2514 : (Jvm.Cond.lays "java/lang/IllegalStateException" "java/lang/Throwable" "depth" "I") ∈ lw_all := lw_g (lw_at lw_m11 15 rfl) rfl
theorem q2515 : (Jvm.Cond.superclass "java/lang/IllegalStateException" "java/lang/RuntimeException") ∈ lw_all := lw_g (lw_at lw_m11 16 rfl) rfl
theorem q3409 : (Jvm.Cond.castable "java/lang/IllegalStateException" "java/lang/Object") ∈ lw_tbl := lw_at lw_m14 190 rfl
theorem in_J6 : ∀ w ∈ wsJ60, w ∈ lw_all := lw_in wsJ60 [2505, 2506, 2507, 2508, 2509, 2514] (by decide +kernel) (by decide +kernel)

/-! java/lang/IllegalArgumentException -/
def RJ7 : String := "java/lang/IllegalArgumentException"
def TJ7 : u_T := fun k => match k with
  | 0 => ("java/lang/Throwable", "cause", "Ljava/lang/Throwable;", false)
  | 1 => ("java/lang/Throwable", "stackTrace", "[Ljava/lang/StackTraceElement;", false)
  | 2 => ("java/lang/Throwable", "suppressedExceptions", "Ljava/util/List;", false)
  | 3 => ("java/lang/Throwable", "detailMessage", "Ljava/lang/String;", false)
  | 4 => ("java/lang/Throwable", "backtrace", "Ljava/lang/Object;", false)
  | _ => ("java/lang/Throwable", "depth", "I", false)
def tyJ7 : Nat → FieldType := fun k => match k with
  | 0 => .object "java/lang/Throwable"
  | 1 => .array (.object "java/lang/StackTraceElement")
  | 2 => .object "java/util/List"
  | 3 => .object "java/lang/String"
  | 4 => .object "java/lang/Object"
  | _ => .int
abbrev wsJ70 : List Cond := u_ws RJ7 TJ7 6
theorem nmJ7 : ∀ a, a < 6 → ∀ b, b < 6 → a ≠ b → (TJ7 a).2.1 ≠ (TJ7 b).2.1 := by decide +kernel
theorem tyJ7_ok : ∀ k, k < 6 → parseFieldDescriptor (TJ7 k).2.2.1 = some (tyJ7 k) := by decide +kernel
abbrev cJ7_init : ByteArray := prog_58_method_2_code
def yJ7_init : MethodName := ⟨RJ7, "<init>", "(Ljava/lang/String;)V"⟩
def dkwJ7_init_0 : List UInt8 := [42, 43, 183, 0, 7, 177]
abbrev dktJ7_init_0 : List UInt8 := dkwJ7_init_0 ++ []
theorem dksJ7_init_0 : cJ7_init.data.toList.drop 0 = dktJ7_init_0 := by decide +kernel
theorem dJ7_init_0 : decode cJ7_init 0 = .ok (.aload_n 0, 1) := dk_42 (dk_at dksJ7_init_0 0 rfl rfl)
theorem dJ7_init_1 : decode cJ7_init 1 = .ok (.aload_n 1, 1) := dk_43 (dk_at dksJ7_init_0 1 rfl rfl)
theorem dJ7_init_2 : decode cJ7_init 2 = .ok (.invokespecial 7, 3) := dk_183 0 7 (dk_at dksJ7_init_0 2 rfl rfl)
theorem dJ7_init_5 : decode cJ7_init 5 = .ok (.return_, 1) := dk_177 (dk_at dksJ7_init_0 5 rfl rfl)
abbrev cJ7_init_2 : ByteArray := prog_58_method_1_code
def yJ7_init_2 : MethodName := ⟨RJ7, "<init>", "()V"⟩
theorem dJ7_init_2_0 : decode cJ7_init_2 0 = .ok (.aload_n 0, 1) := by decide +kernel
theorem dJ7_init_2_1 : decode cJ7_init_2 1 = .ok (.invokespecial 1, 3) := by decide +kernel
theorem dJ7_init_2_4 : decode cJ7_init_2 4 = .ok (.return_, 1) := by decide +kernel
theorem q113 : (Jvm.Cond.initialized "java/lang/IllegalArgumentException") ∈ lw_all := lw_g (lw_at lw_m1 14 rfl) rfl
theorem q520 : (Jvm.Cond.instantiable "java/lang/IllegalArgumentException" (6 : Nat)) ∈ lw_all := lw_g (lw_at lw_m2 181 rfl) rfl
theorem q521 : (Jvm.Cond.castable "java/lang/IllegalArgumentException" "java/lang/IllegalArgumentException") ∈ lw_tbl := lw_at lw_m2 182 rfl
theorem q528 : (Jvm.Cond.selects "java/lang/IllegalArgumentException" ({ cls := "java/lang/Throwable", name := "fillInStackTrace", desc := "(I)Ljava/lang/Throwable;" } : Jvm.MethodName) ({ cls := "java/lang/Throwable", name := "fillInStackTrace", desc := "(I)Ljava/lang/Throwable;" } : Jvm.MethodName)) ∈ lw_all := lw_g (lw_at lw_m2 189 rfl) rfl
theorem q529 : (Jvm.Cond.selects "java/lang/IllegalArgumentException" ({ cls := "java/lang/Throwable", name := "fillInStackTrace", desc := "()Ljava/lang/Throwable;" } : Jvm.MethodName) ({ cls := "java/lang/Throwable", name := "fillInStackTrace", desc := "()Ljava/lang/Throwable;" } : Jvm.MethodName)) ∈ lw_all := lw_g (lw_at lw_m2 190 rfl) rfl
theorem q530 : (Jvm.Cond.lays "java/lang/IllegalArgumentException" "java/lang/Throwable" "cause" "Ljava/lang/Throwable;") ∈ lw_all := lw_g (lw_at lw_m2 191 rfl) rfl
theorem q532 : (Jvm.Cond.lays "java/lang/IllegalArgumentException" "java/lang/Throwable" "stackTrace" "[Ljava/lang/StackTraceElement;") ∈ lw_all := lw_g (lw_at lw_m2 193 rfl) rfl
theorem q534 : (Jvm.Cond.lays "java/lang/IllegalArgumentException" "java/lang/Throwable" "suppressedExceptions" "Ljava/util/List;") ∈ lw_all := lw_g (lw_at lw_m2 195 rfl) rfl
theorem q536 : (Jvm.Cond.lays "java/lang/IllegalArgumentException" "java/lang/Throwable" "detailMessage" "Ljava/lang/String;") ∈ lw_all := lw_g (lw_at lw_m2 197 rfl) rfl
theorem q538 : (Jvm.Cond.lays "java/lang/IllegalArgumentException" "java/lang/Throwable" "backtrace" "Ljava/lang/Object;") ∈ lw_all := lw_g (lw_at lw_m2 199 rfl) rfl
theorem q639 : (Jvm.Cond.instanceMethod ({ cls := "java/lang/IllegalArgumentException", name := "<init>", desc := "(Ljava/lang/String;)V" } : Jvm.MethodName)) ∈ lw_all := lw_g (lw_at lw_m3 60 rfl) rfl
theorem q640 : (Jvm.Cond.code ({ cls := "java/lang/IllegalArgumentException", name := "<init>", desc := "(Ljava/lang/String;)V" } : Jvm.MethodName) prog_58_method_2_code (2 : Nat) (Option.none : Option Jvm.ClassFile.FieldType)) ∈ lw_all := lw_g (lw_at lw_m3 61 rfl) rfl
theorem q641 : (Jvm.Cond.methodLink "java/lang/IllegalArgumentException" (7 : Nat) ({ cls := "java/lang/RuntimeException", name := "<init>", desc := "(Ljava/lang/String;)V" } : Jvm.MethodName)) ∈ lw_all := lw_g (lw_at lw_m3 62 rfl) rfl
theorem q659 : (Jvm.Cond.lays "java/lang/IllegalArgumentException" "java/lang/Throwable" "depth" "I") ∈ lw_all := lw_g (lw_at lw_m3 80 rfl) rfl
theorem q662 : (Jvm.Cond.superclass "java/lang/IllegalArgumentException" "java/lang/RuntimeException") ∈ lw_all := lw_g (lw_at lw_m3 83 rfl) rfl
theorem q827 : (Jvm.Cond.selects "java/lang/IllegalArgumentException" ({ cls := "java/lang/Object", name := "getClass", desc := "()Ljava/lang/Class;" } : Jvm.MethodName) ({ cls := "java/lang/Object", name := "getClass", desc := "()Ljava/lang/Class;" } : Jvm.MethodName)) ∈ lw_all := lw_g (lw_at lw_m4 8 rfl) rfl
theorem q1090 : (Jvm.Cond.selects "java/lang/IllegalArgumentException" ({ cls := "java/lang/Object", name := "hashCode", desc := "()I" } : Jvm.MethodName) ({ cls := "java/lang/Object", name := "hashCode", desc := "()I" } : Jvm.MethodName)) ∈ lw_all := lw_g (lw_at lw_m5 31 rfl) rfl
theorem q1207 : (Jvm.Cond.selects "java/lang/IllegalArgumentException" ({ cls := "java/lang/Object", name := "equals", desc := "(Ljava/lang/Object;)Z" } : Jvm.MethodName) ({ cls := "java/lang/Object", name := "equals", desc := "(Ljava/lang/Object;)Z" } : Jvm.MethodName)) ∈ lw_all := lw_g (lw_at lw_m5 148 rfl) rfl
theorem q2536 : (Jvm.Cond.instanceMethod ({ cls := "java/lang/IllegalArgumentException", name := "<init>", desc := "()V" } : Jvm.MethodName)) ∈ lw_all := lw_g (lw_at lw_m11 37 rfl) rfl
theorem q2537 : (Jvm.Cond.code ({ cls := "java/lang/IllegalArgumentException", name := "<init>", desc := "()V" } : Jvm.MethodName) prog_58_method_1_code (1 : Nat) (Option.none : Option Jvm.ClassFile.FieldType)) ∈ lw_all := lw_g (lw_at lw_m11 38 rfl) rfl
theorem q2538 : (Jvm.Cond.methodLink "java/lang/IllegalArgumentException" (1 : Nat) ({ cls := "java/lang/RuntimeException", name := "<init>", desc := "()V" } : Jvm.MethodName)) ∈ lw_all := lw_g (lw_at lw_m11 39 rfl) rfl
theorem q3410 : (Jvm.Cond.castable "java/lang/IllegalArgumentException" "java/lang/Object") ∈ lw_tbl := lw_at lw_m14 191 rfl
theorem in_J7 : ∀ w ∈ wsJ70, w ∈ lw_all := lw_in wsJ70 [530, 532, 534, 536, 538, 659] (by decide +kernel) (by decide +kernel)

/-! java/lang/Enum -/
def RJ8 : String := "java/lang/Enum"
abbrev cJ8_hashCode : ByteArray := prog_56_method_6_code
def yJ8_hashCode : MethodName := ⟨RJ8, "hashCode", "()I"⟩
def dkwJ8_hashCode_0 : List UInt8 := [42, 180, 0, 17, 60, 27, 154, 0, 13, 42, 42, 184, 0, 20, 90, 181, 0, 17, 60, 27, 172]
abbrev dktJ8_hashCode_0 : List UInt8 := dkwJ8_hashCode_0 ++ []
theorem dksJ8_hashCode_0 : cJ8_hashCode.data.toList.drop 0 = dktJ8_hashCode_0 := by decide +kernel
theorem dJ8_hashCode_0 : decode cJ8_hashCode 0 = .ok (.aload_n 0, 1) := dk_42 (dk_at dksJ8_hashCode_0 0 rfl rfl)
theorem dJ8_hashCode_1 : decode cJ8_hashCode 1 = .ok (.getfield 17, 3) := dk_180 0 17 (dk_at dksJ8_hashCode_0 1 rfl rfl)
theorem dJ8_hashCode_4 : decode cJ8_hashCode 4 = .ok (.istore_n 1, 1) := dk_60 (dk_at dksJ8_hashCode_0 4 rfl rfl)
theorem dJ8_hashCode_5 : decode cJ8_hashCode 5 = .ok (.iload_n 1, 1) := dk_27 (dk_at dksJ8_hashCode_0 5 rfl rfl)
theorem dJ8_hashCode_6 : decode cJ8_hashCode 6 = .ok (.ifCond .ne 13, 3) := dk_154 0 13 (dk_at dksJ8_hashCode_0 6 rfl rfl)
theorem dJ8_hashCode_9 : decode cJ8_hashCode 9 = .ok (.aload_n 0, 1) := dk_42 (dk_at dksJ8_hashCode_0 9 rfl rfl)
theorem dJ8_hashCode_10 : decode cJ8_hashCode 10 = .ok (.aload_n 0, 1) := dk_42 (dk_at dksJ8_hashCode_0 10 rfl rfl)
theorem dJ8_hashCode_11 : decode cJ8_hashCode 11 = .ok (.invokestatic 20, 3) := dk_184 0 20 (dk_at dksJ8_hashCode_0 11 rfl rfl)
theorem dJ8_hashCode_14 : decode cJ8_hashCode 14 = .ok (.dup_x1, 1) := dk_90 (dk_at dksJ8_hashCode_0 14 rfl rfl)
theorem dJ8_hashCode_15 : decode cJ8_hashCode 15 = .ok (.putfield 17, 3) := dk_181 0 17 (dk_at dksJ8_hashCode_0 15 rfl rfl)
theorem dJ8_hashCode_18 : decode cJ8_hashCode 18 = .ok (.istore_n 1, 1) := dk_60 (dk_at dksJ8_hashCode_0 18 rfl rfl)
theorem dJ8_hashCode_19 : decode cJ8_hashCode 19 = .ok (.iload_n 1, 1) := dk_27 (dk_at dksJ8_hashCode_0 19 rfl rfl)
theorem dJ8_hashCode_20 : decode cJ8_hashCode 20 = .ok (.ireturn, 1) := dk_172 (dk_at dksJ8_hashCode_0 20 rfl rfl)
abbrev cJ8_equals : ByteArray := prog_56_method_5_code
def yJ8_equals : MethodName := ⟨RJ8, "equals", "(Ljava/lang/Object;)Z"⟩
def dkwJ8_equals_0 : List UInt8 := [42, 43, 166, 0, 7, 4, 167, 0, 4, 3, 172]
abbrev dktJ8_equals_0 : List UInt8 := dkwJ8_equals_0 ++ []
theorem dksJ8_equals_0 : cJ8_equals.data.toList.drop 0 = dktJ8_equals_0 := by decide +kernel
theorem dJ8_equals_0 : decode cJ8_equals 0 = .ok (.aload_n 0, 1) := dk_42 (dk_at dksJ8_equals_0 0 rfl rfl)
theorem dJ8_equals_1 : decode cJ8_equals 1 = .ok (.aload_n 1, 1) := dk_43 (dk_at dksJ8_equals_0 1 rfl rfl)
theorem dJ8_equals_2 : decode cJ8_equals 2 = .ok (.if_acmp .ne 7, 3) := dk_166 0 7 (dk_at dksJ8_equals_0 2 rfl rfl)
theorem dJ8_equals_5 : decode cJ8_equals 5 = .ok (.iconst 1, 1) := dk_4 (dk_at dksJ8_equals_0 5 rfl rfl)
theorem dJ8_equals_6 : decode cJ8_equals 6 = .ok (.goto 4, 3) := dk_167 0 4 (dk_at dksJ8_equals_0 6 rfl rfl)
theorem dJ8_equals_9 : decode cJ8_equals 9 = .ok (.iconst 0, 1) := dk_3 (dk_at dksJ8_equals_0 9 rfl rfl)
theorem dJ8_equals_10 : decode cJ8_equals 10 = .ok (.ireturn, 1) := dk_172 (dk_at dksJ8_equals_0 10 rfl rfl)
abbrev cJ8_compareTo : ByteArray := prog_56_method_15_code
def yJ8_compareTo : MethodName := ⟨RJ8, "compareTo", "(Ljava/lang/Object;)I"⟩
def dkwJ8_compareTo_0 : List UInt8 := [42, 43, 192, 0, 2, 182, 0, 101, 172]
abbrev dktJ8_compareTo_0 : List UInt8 := dkwJ8_compareTo_0 ++ []
theorem dksJ8_compareTo_0 : cJ8_compareTo.data.toList.drop 0 = dktJ8_compareTo_0 := by decide +kernel
theorem dJ8_compareTo_0 : decode cJ8_compareTo 0 = .ok (.aload_n 0, 1) := dk_42 (dk_at dksJ8_compareTo_0 0 rfl rfl)
theorem dJ8_compareTo_1 : decode cJ8_compareTo 1 = .ok (.aload_n 1, 1) := dk_43 (dk_at dksJ8_compareTo_0 1 rfl rfl)
theorem dJ8_compareTo_2 : decode cJ8_compareTo 2 = .ok (.checkcast 2, 3) := dk_192 0 2 (dk_at dksJ8_compareTo_0 2 rfl rfl)
theorem dJ8_compareTo_5 : decode cJ8_compareTo 5 = .ok (.invokevirtual 101, 3) := dk_182 0 101 (dk_at dksJ8_compareTo_0 5 rfl rfl)
theorem dJ8_compareTo_8 : decode cJ8_compareTo 8 = .ok (.ireturn, 1) := dk_172 (dk_at dksJ8_compareTo_0 8 rfl rfl)
abbrev cJ8_compareTo_2 : ByteArray := prog_56_method_8_code
def yJ8_compareTo_2 : MethodName := ⟨RJ8, "compareTo", "(Ljava/lang/Enum;)I"⟩
def dkwJ8_compareTo_2_1 : List UInt8 := [165, 0, 11, 187, 0, 36, 89, 183, 0, 38, 191, 45, 180, 0, 7, 44, 180, 0, 7, 100, 172]
abbrev dktJ8_compareTo_2_1 : List UInt8 := dkwJ8_compareTo_2_1 ++ []
def dkwJ8_compareTo_2_0 : List UInt8 := [43, 77, 42, 78, 45, 182, 0, 29, 44, 182, 0, 29, 165, 0, 22, 45, 182, 0, 33, 44, 182, 0, 33]
abbrev dktJ8_compareTo_2_0 : List UInt8 := dkwJ8_compareTo_2_0 ++ dktJ8_compareTo_2_1
theorem dksJ8_compareTo_2_0 : cJ8_compareTo_2.data.toList.drop 0 = dktJ8_compareTo_2_0 := by decide +kernel
theorem dksJ8_compareTo_2_1 : cJ8_compareTo_2.data.toList.drop 23 = dktJ8_compareTo_2_1 := dk_seg dksJ8_compareTo_2_0 23 rfl rfl
theorem dJ8_compareTo_2_0 : decode cJ8_compareTo_2 0 = .ok (.aload_n 1, 1) := dk_43 (dk_at dksJ8_compareTo_2_0 0 rfl rfl)
theorem dJ8_compareTo_2_1 : decode cJ8_compareTo_2 1 = .ok (.astore_n 2, 1) := dk_77 (dk_at dksJ8_compareTo_2_0 1 rfl rfl)
theorem dJ8_compareTo_2_2 : decode cJ8_compareTo_2 2 = .ok (.aload_n 0, 1) := dk_42 (dk_at dksJ8_compareTo_2_0 2 rfl rfl)
theorem dJ8_compareTo_2_3 : decode cJ8_compareTo_2 3 = .ok (.astore_n 3, 1) := dk_78 (dk_at dksJ8_compareTo_2_0 3 rfl rfl)
theorem dJ8_compareTo_2_4 : decode cJ8_compareTo_2 4 = .ok (.aload_n 3, 1) := dk_45 (dk_at dksJ8_compareTo_2_0 4 rfl rfl)
theorem dJ8_compareTo_2_5 : decode cJ8_compareTo_2 5 = .ok (.invokevirtual 29, 3) := dk_182 0 29 (dk_at dksJ8_compareTo_2_0 5 rfl rfl)
theorem dJ8_compareTo_2_8 : decode cJ8_compareTo_2 8 = .ok (.aload_n 2, 1) := dk_44 (dk_at dksJ8_compareTo_2_0 8 rfl rfl)
theorem dJ8_compareTo_2_9 : decode cJ8_compareTo_2 9 = .ok (.invokevirtual 29, 3) := dk_182 0 29 (dk_at dksJ8_compareTo_2_0 9 rfl rfl)
theorem dJ8_compareTo_2_12 : decode cJ8_compareTo_2 12 = .ok (.if_acmp .eq 22, 3) := dk_165 0 22 (dk_at dksJ8_compareTo_2_0 12 rfl rfl)
theorem dJ8_compareTo_2_15 : decode cJ8_compareTo_2 15 = .ok (.aload_n 3, 1) := dk_45 (dk_at dksJ8_compareTo_2_0 15 rfl rfl)
theorem dJ8_compareTo_2_16 : decode cJ8_compareTo_2 16 = .ok (.invokevirtual 33, 3) := dk_182 0 33 (dk_at dksJ8_compareTo_2_0 16 rfl rfl)
theorem dJ8_compareTo_2_19 : decode cJ8_compareTo_2 19 = .ok (.aload_n 2, 1) := dk_44 (dk_at dksJ8_compareTo_2_0 19 rfl rfl)
theorem dJ8_compareTo_2_20 : decode cJ8_compareTo_2 20 = .ok (.invokevirtual 33, 3) := dk_182 0 33 (dk_at dksJ8_compareTo_2_0 20 rfl rfl)
theorem dJ8_compareTo_2_23 : decode cJ8_compareTo_2 23 = .ok (.if_acmp .eq 11, 3) := dk_165 0 11 (dk_at dksJ8_compareTo_2_1 0 rfl rfl)
theorem dJ8_compareTo_2_26 : decode cJ8_compareTo_2 26 = .ok (.new 36, 3) := dk_187 0 36 (dk_at dksJ8_compareTo_2_1 3 rfl rfl)
theorem dJ8_compareTo_2_29 : decode cJ8_compareTo_2 29 = .ok (.dup, 1) := dk_89 (dk_at dksJ8_compareTo_2_1 6 rfl rfl)
theorem dJ8_compareTo_2_30 : decode cJ8_compareTo_2 30 = .ok (.invokespecial 38, 3) := dk_183 0 38 (dk_at dksJ8_compareTo_2_1 7 rfl rfl)
theorem dJ8_compareTo_2_33 : decode cJ8_compareTo_2 33 = .ok (.athrow, 1) := dk_191 (dk_at dksJ8_compareTo_2_1 10 rfl rfl)
theorem dJ8_compareTo_2_34 : decode cJ8_compareTo_2 34 = .ok (.aload_n 3, 1) := dk_45 (dk_at dksJ8_compareTo_2_1 11 rfl rfl)
theorem dJ8_compareTo_2_35 : decode cJ8_compareTo_2 35 = .ok (.getfield 7, 3) := dk_180 0 7 (dk_at dksJ8_compareTo_2_1 12 rfl rfl)
theorem dJ8_compareTo_2_38 : decode cJ8_compareTo_2 38 = .ok (.aload_n 2, 1) := dk_44 (dk_at dksJ8_compareTo_2_1 15 rfl rfl)
theorem dJ8_compareTo_2_39 : decode cJ8_compareTo_2 39 = .ok (.getfield 7, 3) := dk_180 0 7 (dk_at dksJ8_compareTo_2_1 16 rfl rfl)
theorem dJ8_compareTo_2_42 : decode cJ8_compareTo_2 42 = .ok (.isub, 1) := dk_100 (dk_at dksJ8_compareTo_2_1 19 rfl rfl)
theorem dJ8_compareTo_2_43 : decode cJ8_compareTo_2 43 = .ok (.ireturn, 1) := dk_172 (dk_at dksJ8_compareTo_2_1 20 rfl rfl)
abbrev cJ8_getDeclaringClass : ByteArray := prog_56_method_9_code
def yJ8_getDeclaringClass : MethodName := ⟨RJ8, "getDeclaringClass", "()Ljava/lang/Class;"⟩
def dkwJ8_getDeclaringClass_0 : List UInt8 := [42, 182, 0, 29, 76, 43, 182, 0, 39, 77, 44, 18, 2, 166, 0, 7, 43, 167, 0, 4, 44, 176]
abbrev dktJ8_getDeclaringClass_0 : List UInt8 := dkwJ8_getDeclaringClass_0 ++ []
theorem dksJ8_getDeclaringClass_0 : cJ8_getDeclaringClass.data.toList.drop 0 = dktJ8_getDeclaringClass_0 := by decide +kernel
theorem dJ8_getDeclaringClass_0 : decode cJ8_getDeclaringClass 0 = .ok (.aload_n 0, 1) := dk_42 (dk_at dksJ8_getDeclaringClass_0 0 rfl rfl)
theorem dJ8_getDeclaringClass_1 : decode cJ8_getDeclaringClass 1 = .ok (.invokevirtual 29, 3) := dk_182 0 29 (dk_at dksJ8_getDeclaringClass_0 1 rfl rfl)
theorem dJ8_getDeclaringClass_4 : decode cJ8_getDeclaringClass 4 = .ok (.astore_n 1, 1) := dk_76 (dk_at dksJ8_getDeclaringClass_0 4 rfl rfl)
theorem dJ8_getDeclaringClass_5 : decode cJ8_getDeclaringClass 5 = .ok (.aload_n 1, 1) := dk_43 (dk_at dksJ8_getDeclaringClass_0 5 rfl rfl)
theorem dJ8_getDeclaringClass_6 : decode cJ8_getDeclaringClass 6 = .ok (.invokevirtual 39, 3) := dk_182 0 39 (dk_at dksJ8_getDeclaringClass_0 6 rfl rfl)
theorem dJ8_getDeclaringClass_9 : decode cJ8_getDeclaringClass 9 = .ok (.astore_n 2, 1) := dk_77 (dk_at dksJ8_getDeclaringClass_0 9 rfl rfl)
theorem dJ8_getDeclaringClass_10 : decode cJ8_getDeclaringClass 10 = .ok (.aload_n 2, 1) := dk_44 (dk_at dksJ8_getDeclaringClass_0 10 rfl rfl)
theorem dJ8_getDeclaringClass_11 : decode cJ8_getDeclaringClass 11 = .ok (.ldc 2, 2) := dk_18 2 (dk_at dksJ8_getDeclaringClass_0 11 rfl rfl)
theorem dJ8_getDeclaringClass_13 : decode cJ8_getDeclaringClass 13 = .ok (.if_acmp .ne 7, 3) := dk_166 0 7 (dk_at dksJ8_getDeclaringClass_0 13 rfl rfl)
theorem dJ8_getDeclaringClass_16 : decode cJ8_getDeclaringClass 16 = .ok (.aload_n 1, 1) := dk_43 (dk_at dksJ8_getDeclaringClass_0 16 rfl rfl)
theorem dJ8_getDeclaringClass_17 : decode cJ8_getDeclaringClass 17 = .ok (.goto 4, 3) := dk_167 0 4 (dk_at dksJ8_getDeclaringClass_0 17 rfl rfl)
theorem dJ8_getDeclaringClass_20 : decode cJ8_getDeclaringClass 20 = .ok (.aload_n 2, 1) := dk_44 (dk_at dksJ8_getDeclaringClass_0 20 rfl rfl)
theorem dJ8_getDeclaringClass_21 : decode cJ8_getDeclaringClass 21 = .ok (.areturn, 1) := dk_176 (dk_at dksJ8_getDeclaringClass_0 21 rfl rfl)
theorem q117 : (Jvm.Cond.initialized "java/lang/Enum") ∈ lw_all := lw_g (lw_at lw_m1 18 rfl) rfl
theorem q1047 : (Jvm.Cond.instanceMethod ({ cls := "java/lang/Enum", name := "hashCode", desc := "()I" } : Jvm.MethodName)) ∈ lw_all := lw_g (lw_at lw_m4 228 rfl) rfl
theorem q1048 : (Jvm.Cond.code ({ cls := "java/lang/Enum", name := "hashCode", desc := "()I" } : Jvm.MethodName) prog_56_method_6_code (2 : Nat) (Option.some Jvm.ClassFile.FieldType.int)) ∈ lw_all := lw_g (lw_at lw_m4 229 rfl) rfl
theorem q1049 : (Jvm.Cond.methodLink "java/lang/Enum" (20 : Nat) ({ cls := "java/lang/System", name := "identityHashCode", desc := "(Ljava/lang/Object;)I" } : Jvm.MethodName)) ∈ lw_all := lw_g (lw_at lw_m4 230 rfl) rfl
theorem q1167 : (Jvm.Cond.instanceMethod ({ cls := "java/lang/Enum", name := "equals", desc := "(Ljava/lang/Object;)Z" } : Jvm.MethodName)) ∈ lw_all := lw_g (lw_at lw_m5 108 rfl) rfl
theorem q1168 : (Jvm.Cond.code ({ cls := "java/lang/Enum", name := "equals", desc := "(Ljava/lang/Object;)Z" } : Jvm.MethodName) prog_56_method_5_code (2 : Nat) (Option.some Jvm.ClassFile.FieldType.boolean)) ∈ lw_all := lw_g (lw_at lw_m5 109 rfl) rfl
theorem q1253 : (Jvm.Cond.instanceMethod ({ cls := "java/lang/Enum", name := "compareTo", desc := "(Ljava/lang/Object;)I" } : Jvm.MethodName)) ∈ lw_all := lw_g (lw_at lw_m5 194 rfl) rfl
theorem q1254 : (Jvm.Cond.publicMethod ({ cls := "java/lang/Enum", name := "compareTo", desc := "(Ljava/lang/Object;)I" } : Jvm.MethodName)) ∈ lw_tbl := lw_at lw_m5 195 rfl
theorem q1255 : (Jvm.Cond.code ({ cls := "java/lang/Enum", name := "compareTo", desc := "(Ljava/lang/Object;)I" } : Jvm.MethodName) prog_56_method_15_code (2 : Nat) (Option.some Jvm.ClassFile.FieldType.int)) ∈ lw_all := lw_g (lw_at lw_m5 196 rfl) rfl
theorem q1256 : (Jvm.Cond.classLink "java/lang/Enum" (2 : Nat) "java/lang/Enum") ∈ lw_all := lw_g (lw_at lw_m5 197 rfl) rfl
theorem q1257 : (Jvm.Cond.methodLink "java/lang/Enum" (101 : Nat) ({ cls := "java/lang/Enum", name := "compareTo", desc := "(Ljava/lang/Enum;)I" } : Jvm.MethodName)) ∈ lw_all := lw_g (lw_at lw_m5 198 rfl) rfl
theorem q1258 : (Jvm.Cond.instanceMethod ({ cls := "java/lang/Enum", name := "compareTo", desc := "(Ljava/lang/Enum;)I" } : Jvm.MethodName)) ∈ lw_all := lw_g (lw_at lw_m5 199 rfl) rfl
theorem q1259 : (Jvm.Cond.sameMethod "java/lang/Enum" "java/lang/Enum" "compareTo" "(Ljava/lang/Enum;)I") ∈ lw_all := lw_g (lw_at lw_m5 200 rfl) rfl
theorem q1278 : (Jvm.Cond.code ({ cls := "java/lang/Enum", name := "compareTo", desc := "(Ljava/lang/Enum;)I" } : Jvm.MethodName) prog_56_method_8_code (4 : Nat) (Option.some Jvm.ClassFile.FieldType.int)) ∈ lw_all := lw_g (lw_at lw_m5 219 rfl) rfl
theorem q1279 : (Jvm.Cond.methodLink "java/lang/Enum" (29 : Nat) ({ cls := "java/lang/Object", name := "getClass", desc := "()Ljava/lang/Class;" } : Jvm.MethodName)) ∈ lw_all := lw_g (lw_at lw_m5 220 rfl) rfl
theorem q1280 : (Jvm.Cond.methodLink "java/lang/Enum" (33 : Nat) ({ cls := "java/lang/Enum", name := "getDeclaringClass", desc := "()Ljava/lang/Class;" } : Jvm.MethodName)) ∈ lw_all := lw_g (lw_at lw_m5 221 rfl) rfl
theorem q1281 : (Jvm.Cond.instanceMethod ({ cls := "java/lang/Enum", name := "getDeclaringClass", desc := "()Ljava/lang/Class;" } : Jvm.MethodName)) ∈ lw_all := lw_g (lw_at lw_m5 222 rfl) rfl
theorem q1282 : (Jvm.Cond.sameMethod "java/lang/Enum" "java/lang/Enum" "getDeclaringClass" "()Ljava/lang/Class;") ∈ lw_all := lw_g (lw_at lw_m5 223 rfl) rfl
theorem q1301 : (Jvm.Cond.code ({ cls := "java/lang/Enum", name := "getDeclaringClass", desc := "()Ljava/lang/Class;" } : Jvm.MethodName) prog_56_method_9_code (3 : Nat) (Option.some (Jvm.ClassFile.FieldType.object "java/lang/Class"))) ∈ lw_all := lw_g (lw_at lw_m6 2 rfl) rfl
theorem q3473 : (Jvm.Cond.fieldLink "java/lang/Enum" (17 : Nat) "java/lang/Enum" "hash" "I") ∈ lw_all := lw_g (lw_at lw_m15 14 rfl) rfl
theorem q3474 : (Jvm.Cond.fieldLink "java/lang/Enum" (7 : Nat) "java/lang/Enum" "ordinal" "I") ∈ lw_all := lw_g (lw_at lw_m15 15 rfl) rfl

/-! java/lang/AbstractStringBuilder -/
def RJ9 : String := "java/lang/AbstractStringBuilder"
abbrev cJ9_init : ByteArray := prog_49_method_2_code
def yJ9_init : MethodName := ⟨RJ9, "<init>", "(I)V"⟩
def dkwJ9_init_1 : List UInt8 := [167, 0, 16, 42, 27, 184, 0, 26, 181, 0, 15, 42, 4, 181, 0, 22, 177]
abbrev dktJ9_init_1 : List UInt8 := dkwJ9_init_1 ++ []
def dkwJ9_init_0 : List UInt8 := [42, 183, 0, 3, 178, 0, 18, 153, 0, 18, 42, 27, 188, 8, 181, 0, 15, 42, 3, 181, 0, 22]
abbrev dktJ9_init_0 : List UInt8 := dkwJ9_init_0 ++ dktJ9_init_1
theorem dksJ9_init_0 : cJ9_init.data.toList.drop 0 = dktJ9_init_0 := by decide +kernel
theorem dksJ9_init_1 : cJ9_init.data.toList.drop 22 = dktJ9_init_1 := dk_seg dksJ9_init_0 22 rfl rfl
theorem dJ9_init_0 : decode cJ9_init 0 = .ok (.aload_n 0, 1) := dk_42 (dk_at dksJ9_init_0 0 rfl rfl)
theorem dJ9_init_1 : decode cJ9_init 1 = .ok (.invokespecial 3, 3) := dk_183 0 3 (dk_at dksJ9_init_0 1 rfl rfl)
theorem dJ9_init_4 : decode cJ9_init 4 = .ok (.getstatic 18, 3) := dk_178 0 18 (dk_at dksJ9_init_0 4 rfl rfl)
theorem dJ9_init_7 : decode cJ9_init 7 = .ok (.ifCond .eq 18, 3) := dk_153 0 18 (dk_at dksJ9_init_0 7 rfl rfl)
theorem dJ9_init_10 : decode cJ9_init 10 = .ok (.aload_n 0, 1) := dk_42 (dk_at dksJ9_init_0 10 rfl rfl)
theorem dJ9_init_11 : decode cJ9_init 11 = .ok (.iload_n 1, 1) := dk_27 (dk_at dksJ9_init_0 11 rfl rfl)
theorem dJ9_init_12 : decode cJ9_init 12 = .ok (.newarray .byte, 2) := dk_188_8 (dk_at dksJ9_init_0 12 rfl rfl)
theorem dJ9_init_14 : decode cJ9_init 14 = .ok (.putfield 15, 3) := dk_181 0 15 (dk_at dksJ9_init_0 14 rfl rfl)
theorem dJ9_init_17 : decode cJ9_init 17 = .ok (.aload_n 0, 1) := dk_42 (dk_at dksJ9_init_0 17 rfl rfl)
theorem dJ9_init_18 : decode cJ9_init 18 = .ok (.iconst 0, 1) := dk_3 (dk_at dksJ9_init_0 18 rfl rfl)
theorem dJ9_init_19 : decode cJ9_init 19 = .ok (.putfield 22, 3) := dk_181 0 22 (dk_at dksJ9_init_0 19 rfl rfl)
theorem dJ9_init_22 : decode cJ9_init 22 = .ok (.goto 16, 3) := dk_167 0 16 (dk_at dksJ9_init_1 0 rfl rfl)
theorem dJ9_init_25 : decode cJ9_init 25 = .ok (.aload_n 0, 1) := dk_42 (dk_at dksJ9_init_1 3 rfl rfl)
theorem dJ9_init_26 : decode cJ9_init 26 = .ok (.iload_n 1, 1) := dk_27 (dk_at dksJ9_init_1 4 rfl rfl)
theorem dJ9_init_27 : decode cJ9_init 27 = .ok (.invokestatic 26, 3) := dk_184 0 26 (dk_at dksJ9_init_1 5 rfl rfl)
theorem dJ9_init_30 : decode cJ9_init 30 = .ok (.putfield 15, 3) := dk_181 0 15 (dk_at dksJ9_init_1 8 rfl rfl)
theorem dJ9_init_33 : decode cJ9_init 33 = .ok (.aload_n 0, 1) := dk_42 (dk_at dksJ9_init_1 11 rfl rfl)
theorem dJ9_init_34 : decode cJ9_init 34 = .ok (.iconst 1, 1) := dk_4 (dk_at dksJ9_init_1 12 rfl rfl)
theorem dJ9_init_35 : decode cJ9_init 35 = .ok (.putfield 22, 3) := dk_181 0 22 (dk_at dksJ9_init_1 13 rfl rfl)
theorem dJ9_init_38 : decode cJ9_init 38 = .ok (.return_, 1) := dk_177 (dk_at dksJ9_init_1 16 rfl rfl)
abbrev cJ9_append : ByteArray := prog_49_method_31_code
def yJ9_append : MethodName := ⟨RJ9, "append", "(C)Ljava/lang/AbstractStringBuilder;"⟩
def dkwJ9_append_3 : List UInt8 := [181, 0, 79, 27, 184, 0, 197, 42, 176]
abbrev dktJ9_append_3 : List UInt8 := dkwJ9_append_3 ++ []
def dkwJ9_append_2 : List UInt8 := [182, 0, 83, 153, 0, 7, 42, 182, 0, 195, 42, 180, 0, 15, 42, 89, 180, 0, 79, 90, 4, 96]
abbrev dktJ9_append_2 : List UInt8 := dkwJ9_append_2 ++ dktJ9_append_3
def dkwJ9_append_1 : List UInt8 := [42, 180, 0, 15, 42, 89, 180, 0, 79, 90, 4, 96, 181, 0, 79, 27, 145, 84, 167, 0, 33, 42]
abbrev dktJ9_append_1 : List UInt8 := dkwJ9_append_1 ++ dktJ9_append_2
def dkwJ9_append_0 : List UInt8 := [42, 42, 180, 0, 79, 4, 96, 182, 0, 100, 42, 182, 0, 83, 153, 0, 31, 27, 184, 0, 191, 153, 0, 24]
abbrev dktJ9_append_0 : List UInt8 := dkwJ9_append_0 ++ dktJ9_append_1
theorem dksJ9_append_0 : cJ9_append.data.toList.drop 0 = dktJ9_append_0 := by decide +kernel
theorem dksJ9_append_1 : cJ9_append.data.toList.drop 24 = dktJ9_append_1 := dk_seg dksJ9_append_0 24 rfl rfl
theorem dksJ9_append_2 : cJ9_append.data.toList.drop 46 = dktJ9_append_2 := dk_seg dksJ9_append_1 22 rfl rfl
theorem dksJ9_append_3 : cJ9_append.data.toList.drop 68 = dktJ9_append_3 := dk_seg dksJ9_append_2 22 rfl rfl
theorem dJ9_append_0 : decode cJ9_append 0 = .ok (.aload_n 0, 1) := dk_42 (dk_at dksJ9_append_0 0 rfl rfl)
theorem dJ9_append_1 : decode cJ9_append 1 = .ok (.aload_n 0, 1) := dk_42 (dk_at dksJ9_append_0 1 rfl rfl)
theorem dJ9_append_2 : decode cJ9_append 2 = .ok (.getfield 79, 3) := dk_180 0 79 (dk_at dksJ9_append_0 2 rfl rfl)
theorem dJ9_append_5 : decode cJ9_append 5 = .ok (.iconst 1, 1) := dk_4 (dk_at dksJ9_append_0 5 rfl rfl)
theorem dJ9_append_6 : decode cJ9_append 6 = .ok (.iadd, 1) := dk_96 (dk_at dksJ9_append_0 6 rfl rfl)
theorem dJ9_append_7 : decode cJ9_append 7 = .ok (.invokevirtual 100, 3) := dk_182 0 100 (dk_at dksJ9_append_0 7 rfl rfl)
theorem dJ9_append_10 : decode cJ9_append 10 = .ok (.aload_n 0, 1) := dk_42 (dk_at dksJ9_append_0 10 rfl rfl)
theorem dJ9_append_11 : decode cJ9_append 11 = .ok (.invokevirtual 83, 3) := dk_182 0 83 (dk_at dksJ9_append_0 11 rfl rfl)
theorem dJ9_append_14 : decode cJ9_append 14 = .ok (.ifCond .eq 31, 3) := dk_153 0 31 (dk_at dksJ9_append_0 14 rfl rfl)
theorem dJ9_append_17 : decode cJ9_append 17 = .ok (.iload_n 1, 1) := dk_27 (dk_at dksJ9_append_0 17 rfl rfl)
theorem dJ9_append_18 : decode cJ9_append 18 = .ok (.invokestatic 191, 3) := dk_184 0 191 (dk_at dksJ9_append_0 18 rfl rfl)
theorem dJ9_append_21 : decode cJ9_append 21 = .ok (.ifCond .eq 24, 3) := dk_153 0 24 (dk_at dksJ9_append_0 21 rfl rfl)
theorem dJ9_append_24 : decode cJ9_append 24 = .ok (.aload_n 0, 1) := dk_42 (dk_at dksJ9_append_1 0 rfl rfl)
theorem dJ9_append_25 : decode cJ9_append 25 = .ok (.getfield 15, 3) := dk_180 0 15 (dk_at dksJ9_append_1 1 rfl rfl)
theorem dJ9_append_28 : decode cJ9_append 28 = .ok (.aload_n 0, 1) := dk_42 (dk_at dksJ9_append_1 4 rfl rfl)
theorem dJ9_append_29 : decode cJ9_append 29 = .ok (.dup, 1) := dk_89 (dk_at dksJ9_append_1 5 rfl rfl)
theorem dJ9_append_30 : decode cJ9_append 30 = .ok (.getfield 79, 3) := dk_180 0 79 (dk_at dksJ9_append_1 6 rfl rfl)
theorem dJ9_append_33 : decode cJ9_append 33 = .ok (.dup_x1, 1) := dk_90 (dk_at dksJ9_append_1 9 rfl rfl)
theorem dJ9_append_34 : decode cJ9_append 34 = .ok (.iconst 1, 1) := dk_4 (dk_at dksJ9_append_1 10 rfl rfl)
theorem dJ9_append_35 : decode cJ9_append 35 = .ok (.iadd, 1) := dk_96 (dk_at dksJ9_append_1 11 rfl rfl)
theorem dJ9_append_36 : decode cJ9_append 36 = .ok (.putfield 79, 3) := dk_181 0 79 (dk_at dksJ9_append_1 12 rfl rfl)
theorem dJ9_append_39 : decode cJ9_append 39 = .ok (.iload_n 1, 1) := dk_27 (dk_at dksJ9_append_1 15 rfl rfl)
theorem dJ9_append_40 : decode cJ9_append 40 = .ok (.i2b, 1) := dk_145 (dk_at dksJ9_append_1 16 rfl rfl)
theorem dJ9_append_41 : decode cJ9_append 41 = .ok (.bastore, 1) := dk_84 (dk_at dksJ9_append_1 17 rfl rfl)
theorem dJ9_append_42 : decode cJ9_append 42 = .ok (.goto 33, 3) := dk_167 0 33 (dk_at dksJ9_append_1 18 rfl rfl)
theorem dJ9_append_45 : decode cJ9_append 45 = .ok (.aload_n 0, 1) := dk_42 (dk_at dksJ9_append_1 21 rfl rfl)
theorem dJ9_append_46 : decode cJ9_append 46 = .ok (.invokevirtual 83, 3) := dk_182 0 83 (dk_at dksJ9_append_2 0 rfl rfl)
theorem dJ9_append_49 : decode cJ9_append 49 = .ok (.ifCond .eq 7, 3) := dk_153 0 7 (dk_at dksJ9_append_2 3 rfl rfl)
theorem dJ9_append_52 : decode cJ9_append 52 = .ok (.aload_n 0, 1) := dk_42 (dk_at dksJ9_append_2 6 rfl rfl)
theorem dJ9_append_53 : decode cJ9_append 53 = .ok (.invokevirtual 195, 3) := dk_182 0 195 (dk_at dksJ9_append_2 7 rfl rfl)
theorem dJ9_append_56 : decode cJ9_append 56 = .ok (.aload_n 0, 1) := dk_42 (dk_at dksJ9_append_2 10 rfl rfl)
theorem dJ9_append_57 : decode cJ9_append 57 = .ok (.getfield 15, 3) := dk_180 0 15 (dk_at dksJ9_append_2 11 rfl rfl)
theorem dJ9_append_60 : decode cJ9_append 60 = .ok (.aload_n 0, 1) := dk_42 (dk_at dksJ9_append_2 14 rfl rfl)
theorem dJ9_append_61 : decode cJ9_append 61 = .ok (.dup, 1) := dk_89 (dk_at dksJ9_append_2 15 rfl rfl)
theorem dJ9_append_62 : decode cJ9_append 62 = .ok (.getfield 79, 3) := dk_180 0 79 (dk_at dksJ9_append_2 16 rfl rfl)
theorem dJ9_append_65 : decode cJ9_append 65 = .ok (.dup_x1, 1) := dk_90 (dk_at dksJ9_append_2 19 rfl rfl)
theorem dJ9_append_66 : decode cJ9_append 66 = .ok (.iconst 1, 1) := dk_4 (dk_at dksJ9_append_2 20 rfl rfl)
theorem dJ9_append_67 : decode cJ9_append 67 = .ok (.iadd, 1) := dk_96 (dk_at dksJ9_append_2 21 rfl rfl)
theorem dJ9_append_68 : decode cJ9_append 68 = .ok (.putfield 79, 3) := dk_181 0 79 (dk_at dksJ9_append_3 0 rfl rfl)
theorem dJ9_append_71 : decode cJ9_append 71 = .ok (.iload_n 1, 1) := dk_27 (dk_at dksJ9_append_3 3 rfl rfl)
theorem dJ9_append_72 : decode cJ9_append 72 = .ok (.invokestatic 197, 3) := dk_184 0 197 (dk_at dksJ9_append_3 4 rfl rfl)
theorem dJ9_append_75 : decode cJ9_append 75 = .ok (.aload_n 0, 1) := dk_42 (dk_at dksJ9_append_3 7 rfl rfl)
theorem dJ9_append_76 : decode cJ9_append 76 = .ok (.areturn, 1) := dk_176 (dk_at dksJ9_append_3 8 rfl rfl)
abbrev cJ9_ensureCapacityInternal : ByteArray := prog_49_method_9_code
def yJ9_ensureCapacityInternal : MethodName := ⟨RJ9, "ensureCapacityInternal", "(I)V"⟩
def dkwJ9_ensureCapacityInternal_1 : List UInt8 := [182, 0, 104, 42, 180, 0, 22, 120, 184, 0, 108, 181, 0, 15, 177]
abbrev dktJ9_ensureCapacityInternal_1 : List UInt8 := dkwJ9_ensureCapacityInternal_1 ++ []
def dkwJ9_ensureCapacityInternal_0 : List UInt8 := [42, 180, 0, 15, 190, 42, 180, 0, 22, 122, 61, 27, 28, 100, 158, 0, 24, 42, 42, 180, 0, 15, 42, 27]
abbrev dktJ9_ensureCapacityInternal_0 : List UInt8 := dkwJ9_ensureCapacityInternal_0 ++ dktJ9_ensureCapacityInternal_1
theorem dksJ9_ensureCapacityInternal_0 : cJ9_ensureCapacityInternal.data.toList.drop 0 = dktJ9_ensureCapacityInternal_0 := by decide +kernel
theorem dksJ9_ensureCapacityInternal_1 : cJ9_ensureCapacityInternal.data.toList.drop 24 = dktJ9_ensureCapacityInternal_1 := dk_seg dksJ9_ensureCapacityInternal_0 24 rfl rfl
theorem dJ9_ensureCapacityInternal_0 : decode cJ9_ensureCapacityInternal 0 = .ok (.aload_n 0, 1) := dk_42 (dk_at dksJ9_ensureCapacityInternal_0 0 rfl rfl)
theorem dJ9_ensureCapacityInternal_1 : decode cJ9_ensureCapacityInternal 1 = .ok (.getfield 15, 3) := dk_180 0 15 (dk_at dksJ9_ensureCapacityInternal_0 1 rfl rfl)
theorem dJ9_ensureCapacityInternal_4 : decode cJ9_ensureCapacityInternal 4 = .ok (.arraylength, 1) := dk_190 (dk_at dksJ9_ensureCapacityInternal_0 4 rfl rfl)
theorem dJ9_ensureCapacityInternal_5 : decode cJ9_ensureCapacityInternal 5 = .ok (.aload_n 0, 1) := dk_42 (dk_at dksJ9_ensureCapacityInternal_0 5 rfl rfl)
theorem dJ9_ensureCapacityInternal_6 : decode cJ9_ensureCapacityInternal 6 = .ok (.getfield 22, 3) := dk_180 0 22 (dk_at dksJ9_ensureCapacityInternal_0 6 rfl rfl)
theorem dJ9_ensureCapacityInternal_9 : decode cJ9_ensureCapacityInternal 9 = .ok (.ishr, 1) := dk_122 (dk_at dksJ9_ensureCapacityInternal_0 9 rfl rfl)
theorem dJ9_ensureCapacityInternal_10 : decode cJ9_ensureCapacityInternal 10 = .ok (.istore_n 2, 1) := dk_61 (dk_at dksJ9_ensureCapacityInternal_0 10 rfl rfl)
theorem dJ9_ensureCapacityInternal_11 : decode cJ9_ensureCapacityInternal 11 = .ok (.iload_n 1, 1) := dk_27 (dk_at dksJ9_ensureCapacityInternal_0 11 rfl rfl)
theorem dJ9_ensureCapacityInternal_12 : decode cJ9_ensureCapacityInternal 12 = .ok (.iload_n 2, 1) := dk_28 (dk_at dksJ9_ensureCapacityInternal_0 12 rfl rfl)
theorem dJ9_ensureCapacityInternal_13 : decode cJ9_ensureCapacityInternal 13 = .ok (.isub, 1) := dk_100 (dk_at dksJ9_ensureCapacityInternal_0 13 rfl rfl)
theorem dJ9_ensureCapacityInternal_14 : decode cJ9_ensureCapacityInternal 14 = .ok (.ifCond .le 24, 3) := dk_158 0 24 (dk_at dksJ9_ensureCapacityInternal_0 14 rfl rfl)
theorem dJ9_ensureCapacityInternal_17 : decode cJ9_ensureCapacityInternal 17 = .ok (.aload_n 0, 1) := dk_42 (dk_at dksJ9_ensureCapacityInternal_0 17 rfl rfl)
theorem dJ9_ensureCapacityInternal_18 : decode cJ9_ensureCapacityInternal 18 = .ok (.aload_n 0, 1) := dk_42 (dk_at dksJ9_ensureCapacityInternal_0 18 rfl rfl)
theorem dJ9_ensureCapacityInternal_19 : decode cJ9_ensureCapacityInternal 19 = .ok (.getfield 15, 3) := dk_180 0 15 (dk_at dksJ9_ensureCapacityInternal_0 19 rfl rfl)
theorem dJ9_ensureCapacityInternal_22 : decode cJ9_ensureCapacityInternal 22 = .ok (.aload_n 0, 1) := dk_42 (dk_at dksJ9_ensureCapacityInternal_0 22 rfl rfl)
theorem dJ9_ensureCapacityInternal_23 : decode cJ9_ensureCapacityInternal 23 = .ok (.iload_n 1, 1) := dk_27 (dk_at dksJ9_ensureCapacityInternal_0 23 rfl rfl)
theorem dJ9_ensureCapacityInternal_24 : decode cJ9_ensureCapacityInternal 24 = .ok (.invokevirtual 104, 3) := dk_182 0 104 (dk_at dksJ9_ensureCapacityInternal_1 0 rfl rfl)
theorem dJ9_ensureCapacityInternal_27 : decode cJ9_ensureCapacityInternal 27 = .ok (.aload_n 0, 1) := dk_42 (dk_at dksJ9_ensureCapacityInternal_1 3 rfl rfl)
theorem dJ9_ensureCapacityInternal_28 : decode cJ9_ensureCapacityInternal 28 = .ok (.getfield 22, 3) := dk_180 0 22 (dk_at dksJ9_ensureCapacityInternal_1 4 rfl rfl)
theorem dJ9_ensureCapacityInternal_31 : decode cJ9_ensureCapacityInternal 31 = .ok (.ishl, 1) := dk_120 (dk_at dksJ9_ensureCapacityInternal_1 7 rfl rfl)
theorem dJ9_ensureCapacityInternal_32 : decode cJ9_ensureCapacityInternal 32 = .ok (.invokestatic 108, 3) := dk_184 0 108 (dk_at dksJ9_ensureCapacityInternal_1 8 rfl rfl)
theorem dJ9_ensureCapacityInternal_35 : decode cJ9_ensureCapacityInternal 35 = .ok (.putfield 15, 3) := dk_181 0 15 (dk_at dksJ9_ensureCapacityInternal_1 11 rfl rfl)
theorem dJ9_ensureCapacityInternal_38 : decode cJ9_ensureCapacityInternal 38 = .ok (.return_, 1) := dk_177 (dk_at dksJ9_ensureCapacityInternal_1 14 rfl rfl)
abbrev cJ9_newCapacity : ByteArray := prog_49_method_10_code
def yJ9_newCapacity : MethodName := ⟨RJ9, "newCapacity", "(I)I"⟩
def dkwJ9_newCapacity_2 : List UInt8 := [183, 0, 124, 191, 21, 5, 42, 180, 0, 22, 122, 172]
abbrev dktJ9_newCapacity_2 : List UInt8 := dkwJ9_newCapacity_2 ++ []
def dkwJ9_newCapacity_1 : List UInt8 := [180, 0, 22, 120, 96, 184, 0, 114, 54, 5, 21, 5, 18, 39, 160, 0, 13, 187, 0, 120, 89, 18, 122]
abbrev dktJ9_newCapacity_1 : List UInt8 := dkwJ9_newCapacity_1 ++ dktJ9_newCapacity_2
def dkwJ9_newCapacity_0 : List UInt8 := [42, 180, 0, 15, 190, 61, 27, 42, 180, 0, 22, 120, 62, 29, 28, 100, 54, 4, 28, 21, 4, 28, 5, 42]
abbrev dktJ9_newCapacity_0 : List UInt8 := dkwJ9_newCapacity_0 ++ dktJ9_newCapacity_1
theorem dksJ9_newCapacity_0 : cJ9_newCapacity.data.toList.drop 0 = dktJ9_newCapacity_0 := by decide +kernel
theorem dksJ9_newCapacity_1 : cJ9_newCapacity.data.toList.drop 24 = dktJ9_newCapacity_1 := dk_seg dksJ9_newCapacity_0 24 rfl rfl
theorem dksJ9_newCapacity_2 : cJ9_newCapacity.data.toList.drop 47 = dktJ9_newCapacity_2 := dk_seg dksJ9_newCapacity_1 23 rfl rfl
theorem dJ9_newCapacity_0 : decode cJ9_newCapacity 0 = .ok (.aload_n 0, 1) := dk_42 (dk_at dksJ9_newCapacity_0 0 rfl rfl)
theorem dJ9_newCapacity_1 : decode cJ9_newCapacity 1 = .ok (.getfield 15, 3) := dk_180 0 15 (dk_at dksJ9_newCapacity_0 1 rfl rfl)
theorem dJ9_newCapacity_4 : decode cJ9_newCapacity 4 = .ok (.arraylength, 1) := dk_190 (dk_at dksJ9_newCapacity_0 4 rfl rfl)
theorem dJ9_newCapacity_5 : decode cJ9_newCapacity 5 = .ok (.istore_n 2, 1) := dk_61 (dk_at dksJ9_newCapacity_0 5 rfl rfl)
theorem dJ9_newCapacity_6 : decode cJ9_newCapacity 6 = .ok (.iload_n 1, 1) := dk_27 (dk_at dksJ9_newCapacity_0 6 rfl rfl)
theorem dJ9_newCapacity_7 : decode cJ9_newCapacity 7 = .ok (.aload_n 0, 1) := dk_42 (dk_at dksJ9_newCapacity_0 7 rfl rfl)
theorem dJ9_newCapacity_8 : decode cJ9_newCapacity 8 = .ok (.getfield 22, 3) := dk_180 0 22 (dk_at dksJ9_newCapacity_0 8 rfl rfl)
theorem dJ9_newCapacity_11 : decode cJ9_newCapacity 11 = .ok (.ishl, 1) := dk_120 (dk_at dksJ9_newCapacity_0 11 rfl rfl)
theorem dJ9_newCapacity_12 : decode cJ9_newCapacity 12 = .ok (.istore_n 3, 1) := dk_62 (dk_at dksJ9_newCapacity_0 12 rfl rfl)
theorem dJ9_newCapacity_13 : decode cJ9_newCapacity 13 = .ok (.iload_n 3, 1) := dk_29 (dk_at dksJ9_newCapacity_0 13 rfl rfl)
theorem dJ9_newCapacity_14 : decode cJ9_newCapacity 14 = .ok (.iload_n 2, 1) := dk_28 (dk_at dksJ9_newCapacity_0 14 rfl rfl)
theorem dJ9_newCapacity_15 : decode cJ9_newCapacity 15 = .ok (.isub, 1) := dk_100 (dk_at dksJ9_newCapacity_0 15 rfl rfl)
theorem dJ9_newCapacity_16 : decode cJ9_newCapacity 16 = .ok (.istore 4, 2) := dk_54 4 (dk_at dksJ9_newCapacity_0 16 rfl rfl)
theorem dJ9_newCapacity_18 : decode cJ9_newCapacity 18 = .ok (.iload_n 2, 1) := dk_28 (dk_at dksJ9_newCapacity_0 18 rfl rfl)
theorem dJ9_newCapacity_19 : decode cJ9_newCapacity 19 = .ok (.iload 4, 2) := dk_21 4 (dk_at dksJ9_newCapacity_0 19 rfl rfl)
theorem dJ9_newCapacity_21 : decode cJ9_newCapacity 21 = .ok (.iload_n 2, 1) := dk_28 (dk_at dksJ9_newCapacity_0 21 rfl rfl)
theorem dJ9_newCapacity_22 : decode cJ9_newCapacity 22 = .ok (.iconst 2, 1) := dk_5 (dk_at dksJ9_newCapacity_0 22 rfl rfl)
theorem dJ9_newCapacity_23 : decode cJ9_newCapacity 23 = .ok (.aload_n 0, 1) := dk_42 (dk_at dksJ9_newCapacity_0 23 rfl rfl)
theorem dJ9_newCapacity_24 : decode cJ9_newCapacity 24 = .ok (.getfield 22, 3) := dk_180 0 22 (dk_at dksJ9_newCapacity_1 0 rfl rfl)
theorem dJ9_newCapacity_27 : decode cJ9_newCapacity 27 = .ok (.ishl, 1) := dk_120 (dk_at dksJ9_newCapacity_1 3 rfl rfl)
theorem dJ9_newCapacity_28 : decode cJ9_newCapacity 28 = .ok (.iadd, 1) := dk_96 (dk_at dksJ9_newCapacity_1 4 rfl rfl)
theorem dJ9_newCapacity_29 : decode cJ9_newCapacity 29 = .ok (.invokestatic 114, 3) := dk_184 0 114 (dk_at dksJ9_newCapacity_1 5 rfl rfl)
theorem dJ9_newCapacity_32 : decode cJ9_newCapacity 32 = .ok (.istore 5, 2) := dk_54 5 (dk_at dksJ9_newCapacity_1 8 rfl rfl)
theorem dJ9_newCapacity_34 : decode cJ9_newCapacity 34 = .ok (.iload 5, 2) := dk_21 5 (dk_at dksJ9_newCapacity_1 10 rfl rfl)
theorem dJ9_newCapacity_36 : decode cJ9_newCapacity 36 = .ok (.ldc 39, 2) := dk_18 39 (dk_at dksJ9_newCapacity_1 12 rfl rfl)
theorem dJ9_newCapacity_38 : decode cJ9_newCapacity 38 = .ok (.if_icmp .ne 13, 3) := dk_160 0 13 (dk_at dksJ9_newCapacity_1 14 rfl rfl)
theorem dJ9_newCapacity_41 : decode cJ9_newCapacity 41 = .ok (.new 120, 3) := dk_187 0 120 (dk_at dksJ9_newCapacity_1 17 rfl rfl)
theorem dJ9_newCapacity_44 : decode cJ9_newCapacity 44 = .ok (.dup, 1) := dk_89 (dk_at dksJ9_newCapacity_1 20 rfl rfl)
theorem dJ9_newCapacity_45 : decode cJ9_newCapacity 45 = .ok (.ldc 122, 2) := dk_18 122 (dk_at dksJ9_newCapacity_1 21 rfl rfl)
theorem dJ9_newCapacity_47 : decode cJ9_newCapacity 47 = .ok (.invokespecial 124, 3) := dk_183 0 124 (dk_at dksJ9_newCapacity_2 0 rfl rfl)
theorem dJ9_newCapacity_50 : decode cJ9_newCapacity 50 = .ok (.athrow, 1) := dk_191 (dk_at dksJ9_newCapacity_2 3 rfl rfl)
theorem dJ9_newCapacity_51 : decode cJ9_newCapacity 51 = .ok (.iload 5, 2) := dk_21 5 (dk_at dksJ9_newCapacity_2 4 rfl rfl)
theorem dJ9_newCapacity_53 : decode cJ9_newCapacity 53 = .ok (.aload_n 0, 1) := dk_42 (dk_at dksJ9_newCapacity_2 6 rfl rfl)
theorem dJ9_newCapacity_54 : decode cJ9_newCapacity 54 = .ok (.getfield 22, 3) := dk_180 0 22 (dk_at dksJ9_newCapacity_2 7 rfl rfl)
theorem dJ9_newCapacity_57 : decode cJ9_newCapacity 57 = .ok (.ishr, 1) := dk_122 (dk_at dksJ9_newCapacity_2 10 rfl rfl)
theorem dJ9_newCapacity_58 : decode cJ9_newCapacity 58 = .ok (.ireturn, 1) := dk_172 (dk_at dksJ9_newCapacity_2 11 rfl rfl)
abbrev cJ9_isLatin1 : ByteArray := prog_49_method_68_code
def yJ9_isLatin1 : MethodName := ⟨RJ9, "isLatin1", "()Z"⟩
def dkwJ9_isLatin1_0 : List UInt8 := [178, 0, 18, 153, 0, 14, 42, 180, 0, 22, 154, 0, 7, 4, 167, 0, 4, 3, 172]
abbrev dktJ9_isLatin1_0 : List UInt8 := dkwJ9_isLatin1_0 ++ []
theorem dksJ9_isLatin1_0 : cJ9_isLatin1.data.toList.drop 0 = dktJ9_isLatin1_0 := by decide +kernel
theorem dJ9_isLatin1_0 : decode cJ9_isLatin1 0 = .ok (.getstatic 18, 3) := dk_178 0 18 (dk_at dksJ9_isLatin1_0 0 rfl rfl)
theorem dJ9_isLatin1_3 : decode cJ9_isLatin1 3 = .ok (.ifCond .eq 14, 3) := dk_153 0 14 (dk_at dksJ9_isLatin1_0 3 rfl rfl)
theorem dJ9_isLatin1_6 : decode cJ9_isLatin1 6 = .ok (.aload_n 0, 1) := dk_42 (dk_at dksJ9_isLatin1_0 6 rfl rfl)
theorem dJ9_isLatin1_7 : decode cJ9_isLatin1 7 = .ok (.getfield 22, 3) := dk_180 0 22 (dk_at dksJ9_isLatin1_0 7 rfl rfl)
theorem dJ9_isLatin1_10 : decode cJ9_isLatin1 10 = .ok (.ifCond .ne 7, 3) := dk_154 0 7 (dk_at dksJ9_isLatin1_0 10 rfl rfl)
theorem dJ9_isLatin1_13 : decode cJ9_isLatin1 13 = .ok (.iconst 1, 1) := dk_4 (dk_at dksJ9_isLatin1_0 13 rfl rfl)
theorem dJ9_isLatin1_14 : decode cJ9_isLatin1 14 = .ok (.goto 4, 3) := dk_167 0 4 (dk_at dksJ9_isLatin1_0 14 rfl rfl)
theorem dJ9_isLatin1_17 : decode cJ9_isLatin1 17 = .ok (.iconst 0, 1) := dk_3 (dk_at dksJ9_isLatin1_0 17 rfl rfl)
theorem dJ9_isLatin1_18 : decode cJ9_isLatin1 18 = .ok (.ireturn, 1) := dk_172 (dk_at dksJ9_isLatin1_0 18 rfl rfl)
abbrev cJ9_inflate : ByteArray := prog_49_method_11_code
def yJ9_inflate : MethodName := ⟨RJ9, "inflate", "()V"⟩
def dkwJ9_inflate_1 : List UInt8 := [42, 180, 0, 79, 184, 0, 125, 42, 43, 181, 0, 15, 42, 4, 181, 0, 22, 177]
abbrev dktJ9_inflate_1 : List UInt8 := dkwJ9_inflate_1 ++ []
def dkwJ9_inflate_0 : List UInt8 := [42, 182, 0, 83, 154, 0, 4, 177, 42, 180, 0, 15, 190, 184, 0, 26, 76, 42, 180, 0, 15, 3, 43, 3]
abbrev dktJ9_inflate_0 : List UInt8 := dkwJ9_inflate_0 ++ dktJ9_inflate_1
theorem dksJ9_inflate_0 : cJ9_inflate.data.toList.drop 0 = dktJ9_inflate_0 := by decide +kernel
theorem dksJ9_inflate_1 : cJ9_inflate.data.toList.drop 24 = dktJ9_inflate_1 := dk_seg dksJ9_inflate_0 24 rfl rfl
theorem dJ9_inflate_0 : decode cJ9_inflate 0 = .ok (.aload_n 0, 1) := dk_42 (dk_at dksJ9_inflate_0 0 rfl rfl)
theorem dJ9_inflate_1 : decode cJ9_inflate 1 = .ok (.invokevirtual 83, 3) := dk_182 0 83 (dk_at dksJ9_inflate_0 1 rfl rfl)
theorem dJ9_inflate_4 : decode cJ9_inflate 4 = .ok (.ifCond .ne 4, 3) := dk_154 0 4 (dk_at dksJ9_inflate_0 4 rfl rfl)
theorem dJ9_inflate_7 : decode cJ9_inflate 7 = .ok (.return_, 1) := dk_177 (dk_at dksJ9_inflate_0 7 rfl rfl)
theorem dJ9_inflate_8 : decode cJ9_inflate 8 = .ok (.aload_n 0, 1) := dk_42 (dk_at dksJ9_inflate_0 8 rfl rfl)
theorem dJ9_inflate_9 : decode cJ9_inflate 9 = .ok (.getfield 15, 3) := dk_180 0 15 (dk_at dksJ9_inflate_0 9 rfl rfl)
theorem dJ9_inflate_12 : decode cJ9_inflate 12 = .ok (.arraylength, 1) := dk_190 (dk_at dksJ9_inflate_0 12 rfl rfl)
theorem dJ9_inflate_13 : decode cJ9_inflate 13 = .ok (.invokestatic 26, 3) := dk_184 0 26 (dk_at dksJ9_inflate_0 13 rfl rfl)
theorem dJ9_inflate_16 : decode cJ9_inflate 16 = .ok (.astore_n 1, 1) := dk_76 (dk_at dksJ9_inflate_0 16 rfl rfl)
theorem dJ9_inflate_17 : decode cJ9_inflate 17 = .ok (.aload_n 0, 1) := dk_42 (dk_at dksJ9_inflate_0 17 rfl rfl)
theorem dJ9_inflate_18 : decode cJ9_inflate 18 = .ok (.getfield 15, 3) := dk_180 0 15 (dk_at dksJ9_inflate_0 18 rfl rfl)
theorem dJ9_inflate_21 : decode cJ9_inflate 21 = .ok (.iconst 0, 1) := dk_3 (dk_at dksJ9_inflate_0 21 rfl rfl)
theorem dJ9_inflate_22 : decode cJ9_inflate 22 = .ok (.aload_n 1, 1) := dk_43 (dk_at dksJ9_inflate_0 22 rfl rfl)
theorem dJ9_inflate_23 : decode cJ9_inflate 23 = .ok (.iconst 0, 1) := dk_3 (dk_at dksJ9_inflate_0 23 rfl rfl)
theorem dJ9_inflate_24 : decode cJ9_inflate 24 = .ok (.aload_n 0, 1) := dk_42 (dk_at dksJ9_inflate_1 0 rfl rfl)
theorem dJ9_inflate_25 : decode cJ9_inflate 25 = .ok (.getfield 79, 3) := dk_180 0 79 (dk_at dksJ9_inflate_1 1 rfl rfl)
theorem dJ9_inflate_28 : decode cJ9_inflate 28 = .ok (.invokestatic 125, 3) := dk_184 0 125 (dk_at dksJ9_inflate_1 4 rfl rfl)
theorem dJ9_inflate_31 : decode cJ9_inflate 31 = .ok (.aload_n 0, 1) := dk_42 (dk_at dksJ9_inflate_1 7 rfl rfl)
theorem dJ9_inflate_32 : decode cJ9_inflate 32 = .ok (.aload_n 1, 1) := dk_43 (dk_at dksJ9_inflate_1 8 rfl rfl)
theorem dJ9_inflate_33 : decode cJ9_inflate 33 = .ok (.putfield 15, 3) := dk_181 0 15 (dk_at dksJ9_inflate_1 9 rfl rfl)
theorem dJ9_inflate_36 : decode cJ9_inflate 36 = .ok (.aload_n 0, 1) := dk_42 (dk_at dksJ9_inflate_1 12 rfl rfl)
theorem dJ9_inflate_37 : decode cJ9_inflate 37 = .ok (.iconst 1, 1) := dk_4 (dk_at dksJ9_inflate_1 13 rfl rfl)
theorem dJ9_inflate_38 : decode cJ9_inflate 38 = .ok (.putfield 22, 3) := dk_181 0 22 (dk_at dksJ9_inflate_1 14 rfl rfl)
theorem dJ9_inflate_41 : decode cJ9_inflate 41 = .ok (.return_, 1) := dk_177 (dk_at dksJ9_inflate_1 17 rfl rfl)
abbrev cJ9_getValue : ByteArray := prog_49_method_64_code
def yJ9_getValue : MethodName := ⟨RJ9, "getValue", "()[B"⟩
theorem dJ9_getValue_0 : decode cJ9_getValue 0 = .ok (.aload_n 0, 1) := by decide +kernel
theorem dJ9_getValue_1 : decode cJ9_getValue 1 = .ok (.getfield 15, 3) := by decide +kernel
theorem dJ9_getValue_4 : decode cJ9_getValue 4 = .ok (.areturn, 1) := by decide +kernel
abbrev cJ9_length : ByteArray := prog_49_method_6_code
def yJ9_length : MethodName := ⟨RJ9, "length", "()I"⟩
theorem dJ9_length_0 : decode cJ9_length 0 = .ok (.aload_n 0, 1) := by decide +kernel
theorem dJ9_length_1 : decode cJ9_length 1 = .ok (.getfield 79, 3) := by decide +kernel
theorem dJ9_length_4 : decode cJ9_length 4 = .ok (.ireturn, 1) := by decide +kernel
abbrev cJ9_append_2 : ByteArray := prog_49_method_32_code
def yJ9_append_2 : MethodName := ⟨RJ9, "append", "(I)Ljava/lang/AbstractStringBuilder;"⟩
def dkwJ9_append_2_2 : List UInt8 := [42, 29, 181, 0, 79, 42, 176]
abbrev dktJ9_append_2_2 : List UInt8 := dkwJ9_append_2_2 ++ []
def dkwJ9_append_2_1 : List UInt8 := [27, 29, 42, 180, 0, 15, 184, 0, 248, 87, 167, 0, 14, 27, 28, 29, 42, 180, 0, 15, 184, 0, 251, 87]
abbrev dktJ9_append_2_1 : List UInt8 := dkwJ9_append_2_1 ++ dktJ9_append_2_2
def dkwJ9_append_2_0 : List UInt8 := [42, 180, 0, 79, 61, 28, 27, 184, 0, 245, 96, 62, 42, 29, 182, 0, 100, 42, 182, 0, 83, 153, 0, 16]
abbrev dktJ9_append_2_0 : List UInt8 := dkwJ9_append_2_0 ++ dktJ9_append_2_1
theorem dksJ9_append_2_0 : cJ9_append_2.data.toList.drop 0 = dktJ9_append_2_0 := by decide +kernel
theorem dksJ9_append_2_1 : cJ9_append_2.data.toList.drop 24 = dktJ9_append_2_1 := dk_seg dksJ9_append_2_0 24 rfl rfl
theorem dksJ9_append_2_2 : cJ9_append_2.data.toList.drop 48 = dktJ9_append_2_2 := dk_seg dksJ9_append_2_1 24 rfl rfl
theorem dJ9_append_2_0 : decode cJ9_append_2 0 = .ok (.aload_n 0, 1) := dk_42 (dk_at dksJ9_append_2_0 0 rfl rfl)
theorem dJ9_append_2_1 : decode cJ9_append_2 1 = .ok (.getfield 79, 3) := dk_180 0 79 (dk_at dksJ9_append_2_0 1 rfl rfl)
theorem dJ9_append_2_4 : decode cJ9_append_2 4 = .ok (.istore_n 2, 1) := dk_61 (dk_at dksJ9_append_2_0 4 rfl rfl)
theorem dJ9_append_2_5 : decode cJ9_append_2 5 = .ok (.iload_n 2, 1) := dk_28 (dk_at dksJ9_append_2_0 5 rfl rfl)
theorem dJ9_append_2_6 : decode cJ9_append_2 6 = .ok (.iload_n 1, 1) := dk_27 (dk_at dksJ9_append_2_0 6 rfl rfl)
theorem dJ9_append_2_7 : decode cJ9_append_2 7 = .ok (.invokestatic 245, 3) := dk_184 0 245 (dk_at dksJ9_append_2_0 7 rfl rfl)
theorem dJ9_append_2_10 : decode cJ9_append_2 10 = .ok (.iadd, 1) := dk_96 (dk_at dksJ9_append_2_0 10 rfl rfl)
theorem dJ9_append_2_11 : decode cJ9_append_2 11 = .ok (.istore_n 3, 1) := dk_62 (dk_at dksJ9_append_2_0 11 rfl rfl)
theorem dJ9_append_2_12 : decode cJ9_append_2 12 = .ok (.aload_n 0, 1) := dk_42 (dk_at dksJ9_append_2_0 12 rfl rfl)
theorem dJ9_append_2_13 : decode cJ9_append_2 13 = .ok (.iload_n 3, 1) := dk_29 (dk_at dksJ9_append_2_0 13 rfl rfl)
theorem dJ9_append_2_14 : decode cJ9_append_2 14 = .ok (.invokevirtual 100, 3) := dk_182 0 100 (dk_at dksJ9_append_2_0 14 rfl rfl)
theorem dJ9_append_2_17 : decode cJ9_append_2 17 = .ok (.aload_n 0, 1) := dk_42 (dk_at dksJ9_append_2_0 17 rfl rfl)
theorem dJ9_append_2_18 : decode cJ9_append_2 18 = .ok (.invokevirtual 83, 3) := dk_182 0 83 (dk_at dksJ9_append_2_0 18 rfl rfl)
theorem dJ9_append_2_21 : decode cJ9_append_2 21 = .ok (.ifCond .eq 16, 3) := dk_153 0 16 (dk_at dksJ9_append_2_0 21 rfl rfl)
theorem dJ9_append_2_24 : decode cJ9_append_2 24 = .ok (.iload_n 1, 1) := dk_27 (dk_at dksJ9_append_2_1 0 rfl rfl)
theorem dJ9_append_2_25 : decode cJ9_append_2 25 = .ok (.iload_n 3, 1) := dk_29 (dk_at dksJ9_append_2_1 1 rfl rfl)
theorem dJ9_append_2_26 : decode cJ9_append_2 26 = .ok (.aload_n 0, 1) := dk_42 (dk_at dksJ9_append_2_1 2 rfl rfl)
theorem dJ9_append_2_27 : decode cJ9_append_2 27 = .ok (.getfield 15, 3) := dk_180 0 15 (dk_at dksJ9_append_2_1 3 rfl rfl)
theorem dJ9_append_2_30 : decode cJ9_append_2 30 = .ok (.invokestatic 248, 3) := dk_184 0 248 (dk_at dksJ9_append_2_1 6 rfl rfl)
theorem dJ9_append_2_33 : decode cJ9_append_2 33 = .ok (.pop, 1) := dk_87 (dk_at dksJ9_append_2_1 9 rfl rfl)
theorem dJ9_append_2_34 : decode cJ9_append_2 34 = .ok (.goto 14, 3) := dk_167 0 14 (dk_at dksJ9_append_2_1 10 rfl rfl)
theorem dJ9_append_2_37 : decode cJ9_append_2 37 = .ok (.iload_n 1, 1) := dk_27 (dk_at dksJ9_append_2_1 13 rfl rfl)
theorem dJ9_append_2_38 : decode cJ9_append_2 38 = .ok (.iload_n 2, 1) := dk_28 (dk_at dksJ9_append_2_1 14 rfl rfl)
theorem dJ9_append_2_39 : decode cJ9_append_2 39 = .ok (.iload_n 3, 1) := dk_29 (dk_at dksJ9_append_2_1 15 rfl rfl)
theorem dJ9_append_2_40 : decode cJ9_append_2 40 = .ok (.aload_n 0, 1) := dk_42 (dk_at dksJ9_append_2_1 16 rfl rfl)
theorem dJ9_append_2_41 : decode cJ9_append_2 41 = .ok (.getfield 15, 3) := dk_180 0 15 (dk_at dksJ9_append_2_1 17 rfl rfl)
theorem dJ9_append_2_44 : decode cJ9_append_2 44 = .ok (.invokestatic 251, 3) := dk_184 0 251 (dk_at dksJ9_append_2_1 20 rfl rfl)
theorem dJ9_append_2_47 : decode cJ9_append_2 47 = .ok (.pop, 1) := dk_87 (dk_at dksJ9_append_2_1 23 rfl rfl)
theorem dJ9_append_2_48 : decode cJ9_append_2 48 = .ok (.aload_n 0, 1) := dk_42 (dk_at dksJ9_append_2_2 0 rfl rfl)
theorem dJ9_append_2_49 : decode cJ9_append_2 49 = .ok (.iload_n 3, 1) := dk_29 (dk_at dksJ9_append_2_2 1 rfl rfl)
theorem dJ9_append_2_50 : decode cJ9_append_2 50 = .ok (.putfield 79, 3) := dk_181 0 79 (dk_at dksJ9_append_2_2 2 rfl rfl)
theorem dJ9_append_2_53 : decode cJ9_append_2 53 = .ok (.aload_n 0, 1) := dk_42 (dk_at dksJ9_append_2_2 5 rfl rfl)
theorem dJ9_append_2_54 : decode cJ9_append_2 54 = .ok (.areturn, 1) := dk_176 (dk_at dksJ9_append_2_2 6 rfl rfl)
abbrev cJ9_append_3 : ByteArray := prog_49_method_22_code
def yJ9_append_3 : MethodName := ⟨RJ9, "append", "(Ljava/lang/String;)Ljava/lang/AbstractStringBuilder;"⟩
def dkwJ9_append_3_1 : List UInt8 := [42, 42, 180, 0, 79, 43, 182, 0, 208, 42, 89, 180, 0, 79, 28, 96, 181, 0, 79, 42, 176]
abbrev dktJ9_append_3_1 : List UInt8 := dkwJ9_append_3_1 ++ []
def dkwJ9_append_3_0 : List UInt8 := [43, 199, 0, 8, 42, 182, 0, 204, 176, 43, 182, 0, 32, 61, 42, 42, 180, 0, 79, 28, 96, 182, 0, 100]
abbrev dktJ9_append_3_0 : List UInt8 := dkwJ9_append_3_0 ++ dktJ9_append_3_1
theorem dksJ9_append_3_0 : cJ9_append_3.data.toList.drop 0 = dktJ9_append_3_0 := by decide +kernel
theorem dksJ9_append_3_1 : cJ9_append_3.data.toList.drop 24 = dktJ9_append_3_1 := dk_seg dksJ9_append_3_0 24 rfl rfl
theorem dJ9_append_3_0 : decode cJ9_append_3 0 = .ok (.aload_n 1, 1) := dk_43 (dk_at dksJ9_append_3_0 0 rfl rfl)
theorem dJ9_append_3_1 : decode cJ9_append_3 1 = .ok (.ifnonnull 8, 3) := dk_199 0 8 (dk_at dksJ9_append_3_0 1 rfl rfl)
theorem dJ9_append_3_4 : decode cJ9_append_3 4 = .ok (.aload_n 0, 1) := dk_42 (dk_at dksJ9_append_3_0 4 rfl rfl)
theorem dJ9_append_3_5 : decode cJ9_append_3 5 = .ok (.invokevirtual 204, 3) := dk_182 0 204 (dk_at dksJ9_append_3_0 5 rfl rfl)
theorem dJ9_append_3_8 : decode cJ9_append_3 8 = .ok (.areturn, 1) := dk_176 (dk_at dksJ9_append_3_0 8 rfl rfl)
theorem dJ9_append_3_9 : decode cJ9_append_3 9 = .ok (.aload_n 1, 1) := dk_43 (dk_at dksJ9_append_3_0 9 rfl rfl)
theorem dJ9_append_3_10 : decode cJ9_append_3 10 = .ok (.invokevirtual 32, 3) := dk_182 0 32 (dk_at dksJ9_append_3_0 10 rfl rfl)
theorem dJ9_append_3_13 : decode cJ9_append_3 13 = .ok (.istore_n 2, 1) := dk_61 (dk_at dksJ9_append_3_0 13 rfl rfl)
theorem dJ9_append_3_14 : decode cJ9_append_3 14 = .ok (.aload_n 0, 1) := dk_42 (dk_at dksJ9_append_3_0 14 rfl rfl)
theorem dJ9_append_3_15 : decode cJ9_append_3 15 = .ok (.aload_n 0, 1) := dk_42 (dk_at dksJ9_append_3_0 15 rfl rfl)
theorem dJ9_append_3_16 : decode cJ9_append_3 16 = .ok (.getfield 79, 3) := dk_180 0 79 (dk_at dksJ9_append_3_0 16 rfl rfl)
theorem dJ9_append_3_19 : decode cJ9_append_3 19 = .ok (.iload_n 2, 1) := dk_28 (dk_at dksJ9_append_3_0 19 rfl rfl)
theorem dJ9_append_3_20 : decode cJ9_append_3 20 = .ok (.iadd, 1) := dk_96 (dk_at dksJ9_append_3_0 20 rfl rfl)
theorem dJ9_append_3_21 : decode cJ9_append_3 21 = .ok (.invokevirtual 100, 3) := dk_182 0 100 (dk_at dksJ9_append_3_0 21 rfl rfl)
theorem dJ9_append_3_24 : decode cJ9_append_3 24 = .ok (.aload_n 0, 1) := dk_42 (dk_at dksJ9_append_3_1 0 rfl rfl)
theorem dJ9_append_3_25 : decode cJ9_append_3 25 = .ok (.aload_n 0, 1) := dk_42 (dk_at dksJ9_append_3_1 1 rfl rfl)
theorem dJ9_append_3_26 : decode cJ9_append_3 26 = .ok (.getfield 79, 3) := dk_180 0 79 (dk_at dksJ9_append_3_1 2 rfl rfl)
theorem dJ9_append_3_29 : decode cJ9_append_3 29 = .ok (.aload_n 1, 1) := dk_43 (dk_at dksJ9_append_3_1 5 rfl rfl)
theorem dJ9_append_3_30 : decode cJ9_append_3 30 = .ok (.invokevirtual 208, 3) := dk_182 0 208 (dk_at dksJ9_append_3_1 6 rfl rfl)
theorem dJ9_append_3_33 : decode cJ9_append_3 33 = .ok (.aload_n 0, 1) := dk_42 (dk_at dksJ9_append_3_1 9 rfl rfl)
theorem dJ9_append_3_34 : decode cJ9_append_3 34 = .ok (.dup, 1) := dk_89 (dk_at dksJ9_append_3_1 10 rfl rfl)
theorem dJ9_append_3_35 : decode cJ9_append_3 35 = .ok (.getfield 79, 3) := dk_180 0 79 (dk_at dksJ9_append_3_1 11 rfl rfl)
theorem dJ9_append_3_38 : decode cJ9_append_3 38 = .ok (.iload_n 2, 1) := dk_28 (dk_at dksJ9_append_3_1 14 rfl rfl)
theorem dJ9_append_3_39 : decode cJ9_append_3 39 = .ok (.iadd, 1) := dk_96 (dk_at dksJ9_append_3_1 15 rfl rfl)
theorem dJ9_append_3_40 : decode cJ9_append_3 40 = .ok (.putfield 79, 3) := dk_181 0 79 (dk_at dksJ9_append_3_1 16 rfl rfl)
theorem dJ9_append_3_43 : decode cJ9_append_3 43 = .ok (.aload_n 0, 1) := dk_42 (dk_at dksJ9_append_3_1 19 rfl rfl)
theorem dJ9_append_3_44 : decode cJ9_append_3 44 = .ok (.areturn, 1) := dk_176 (dk_at dksJ9_append_3_1 20 rfl rfl)
abbrev cJ9_appendNull : ByteArray := prog_49_method_26_code
def yJ9_appendNull : MethodName := ⟨RJ9, "appendNull", "()Ljava/lang/AbstractStringBuilder;"⟩
def dkwJ9_appendNull_3 : List UInt8 := [184, 0, 226, 60, 42, 27, 181, 0, 79, 42, 176]
abbrev dktJ9_appendNull_3 : List UInt8 := dkwJ9_appendNull_3 ++ []
def dkwJ9_appendNull_2 : List UInt8 := [16, 108, 84, 44, 27, 132, 1, 1, 16, 108, 84, 167, 0, 17, 44, 27, 16, 110, 16, 117, 16, 108, 16, 108]
abbrev dktJ9_appendNull_2 : List UInt8 := dkwJ9_appendNull_2 ++ dktJ9_appendNull_3
def dkwJ9_appendNull_1 : List UInt8 := [153, 0, 38, 44, 27, 132, 1, 1, 16, 110, 84, 44, 27, 132, 1, 1, 16, 117, 84, 44, 27, 132, 1, 1]
abbrev dktJ9_appendNull_1 : List UInt8 := dkwJ9_appendNull_1 ++ dktJ9_appendNull_2
def dkwJ9_appendNull_0 : List UInt8 := [42, 42, 180, 0, 79, 7, 96, 182, 0, 100, 42, 180, 0, 79, 60, 42, 180, 0, 15, 77, 42, 182, 0, 83]
abbrev dktJ9_appendNull_0 : List UInt8 := dkwJ9_appendNull_0 ++ dktJ9_appendNull_1
theorem dksJ9_appendNull_0 : cJ9_appendNull.data.toList.drop 0 = dktJ9_appendNull_0 := by decide +kernel
theorem dksJ9_appendNull_1 : cJ9_appendNull.data.toList.drop 24 = dktJ9_appendNull_1 := dk_seg dksJ9_appendNull_0 24 rfl rfl
theorem dksJ9_appendNull_2 : cJ9_appendNull.data.toList.drop 48 = dktJ9_appendNull_2 := dk_seg dksJ9_appendNull_1 24 rfl rfl
theorem dksJ9_appendNull_3 : cJ9_appendNull.data.toList.drop 72 = dktJ9_appendNull_3 := dk_seg dksJ9_appendNull_2 24 rfl rfl
theorem dJ9_appendNull_0 : decode cJ9_appendNull 0 = .ok (.aload_n 0, 1) := dk_42 (dk_at dksJ9_appendNull_0 0 rfl rfl)
theorem dJ9_appendNull_1 : decode cJ9_appendNull 1 = .ok (.aload_n 0, 1) := dk_42 (dk_at dksJ9_appendNull_0 1 rfl rfl)
theorem dJ9_appendNull_2 : decode cJ9_appendNull 2 = .ok (.getfield 79, 3) := dk_180 0 79 (dk_at dksJ9_appendNull_0 2 rfl rfl)
theorem dJ9_appendNull_5 : decode cJ9_appendNull 5 = .ok (.iconst 4, 1) := dk_7 (dk_at dksJ9_appendNull_0 5 rfl rfl)
theorem dJ9_appendNull_6 : decode cJ9_appendNull 6 = .ok (.iadd, 1) := dk_96 (dk_at dksJ9_appendNull_0 6 rfl rfl)
theorem dJ9_appendNull_7 : decode cJ9_appendNull 7 = .ok (.invokevirtual 100, 3) := dk_182 0 100 (dk_at dksJ9_appendNull_0 7 rfl rfl)
theorem dJ9_appendNull_10 : decode cJ9_appendNull 10 = .ok (.aload_n 0, 1) := dk_42 (dk_at dksJ9_appendNull_0 10 rfl rfl)
theorem dJ9_appendNull_11 : decode cJ9_appendNull 11 = .ok (.getfield 79, 3) := dk_180 0 79 (dk_at dksJ9_appendNull_0 11 rfl rfl)
theorem dJ9_appendNull_14 : decode cJ9_appendNull 14 = .ok (.istore_n 1, 1) := dk_60 (dk_at dksJ9_appendNull_0 14 rfl rfl)
theorem dJ9_appendNull_15 : decode cJ9_appendNull 15 = .ok (.aload_n 0, 1) := dk_42 (dk_at dksJ9_appendNull_0 15 rfl rfl)
theorem dJ9_appendNull_16 : decode cJ9_appendNull 16 = .ok (.getfield 15, 3) := dk_180 0 15 (dk_at dksJ9_appendNull_0 16 rfl rfl)
theorem dJ9_appendNull_19 : decode cJ9_appendNull 19 = .ok (.astore_n 2, 1) := dk_77 (dk_at dksJ9_appendNull_0 19 rfl rfl)
theorem dJ9_appendNull_20 : decode cJ9_appendNull 20 = .ok (.aload_n 0, 1) := dk_42 (dk_at dksJ9_appendNull_0 20 rfl rfl)
theorem dJ9_appendNull_21 : decode cJ9_appendNull 21 = .ok (.invokevirtual 83, 3) := dk_182 0 83 (dk_at dksJ9_appendNull_0 21 rfl rfl)
theorem dJ9_appendNull_24 : decode cJ9_appendNull 24 = .ok (.ifCond .eq 38, 3) := dk_153 0 38 (dk_at dksJ9_appendNull_1 0 rfl rfl)
theorem dJ9_appendNull_27 : decode cJ9_appendNull 27 = .ok (.aload_n 2, 1) := dk_44 (dk_at dksJ9_appendNull_1 3 rfl rfl)
theorem dJ9_appendNull_28 : decode cJ9_appendNull 28 = .ok (.iload_n 1, 1) := dk_27 (dk_at dksJ9_appendNull_1 4 rfl rfl)
theorem dJ9_appendNull_29 : decode cJ9_appendNull 29 = .ok (.iinc 1 1, 3) := dk_132 1 1 (dk_at dksJ9_appendNull_1 5 rfl rfl)
theorem dJ9_appendNull_32 : decode cJ9_appendNull 32 = .ok (.bipush 110, 2) := dk_16 110 (dk_at dksJ9_appendNull_1 8 rfl rfl)
theorem dJ9_appendNull_34 : decode cJ9_appendNull 34 = .ok (.bastore, 1) := dk_84 (dk_at dksJ9_appendNull_1 10 rfl rfl)
theorem dJ9_appendNull_35 : decode cJ9_appendNull 35 = .ok (.aload_n 2, 1) := dk_44 (dk_at dksJ9_appendNull_1 11 rfl rfl)
theorem dJ9_appendNull_36 : decode cJ9_appendNull 36 = .ok (.iload_n 1, 1) := dk_27 (dk_at dksJ9_appendNull_1 12 rfl rfl)
theorem dJ9_appendNull_37 : decode cJ9_appendNull 37 = .ok (.iinc 1 1, 3) := dk_132 1 1 (dk_at dksJ9_appendNull_1 13 rfl rfl)
theorem dJ9_appendNull_40 : decode cJ9_appendNull 40 = .ok (.bipush 117, 2) := dk_16 117 (dk_at dksJ9_appendNull_1 16 rfl rfl)
theorem dJ9_appendNull_42 : decode cJ9_appendNull 42 = .ok (.bastore, 1) := dk_84 (dk_at dksJ9_appendNull_1 18 rfl rfl)
theorem dJ9_appendNull_43 : decode cJ9_appendNull 43 = .ok (.aload_n 2, 1) := dk_44 (dk_at dksJ9_appendNull_1 19 rfl rfl)
theorem dJ9_appendNull_44 : decode cJ9_appendNull 44 = .ok (.iload_n 1, 1) := dk_27 (dk_at dksJ9_appendNull_1 20 rfl rfl)
theorem dJ9_appendNull_45 : decode cJ9_appendNull 45 = .ok (.iinc 1 1, 3) := dk_132 1 1 (dk_at dksJ9_appendNull_1 21 rfl rfl)
theorem dJ9_appendNull_48 : decode cJ9_appendNull 48 = .ok (.bipush 108, 2) := dk_16 108 (dk_at dksJ9_appendNull_2 0 rfl rfl)
theorem dJ9_appendNull_50 : decode cJ9_appendNull 50 = .ok (.bastore, 1) := dk_84 (dk_at dksJ9_appendNull_2 2 rfl rfl)
theorem dJ9_appendNull_51 : decode cJ9_appendNull 51 = .ok (.aload_n 2, 1) := dk_44 (dk_at dksJ9_appendNull_2 3 rfl rfl)
theorem dJ9_appendNull_52 : decode cJ9_appendNull 52 = .ok (.iload_n 1, 1) := dk_27 (dk_at dksJ9_appendNull_2 4 rfl rfl)
theorem dJ9_appendNull_53 : decode cJ9_appendNull 53 = .ok (.iinc 1 1, 3) := dk_132 1 1 (dk_at dksJ9_appendNull_2 5 rfl rfl)
theorem dJ9_appendNull_56 : decode cJ9_appendNull 56 = .ok (.bipush 108, 2) := dk_16 108 (dk_at dksJ9_appendNull_2 8 rfl rfl)
theorem dJ9_appendNull_58 : decode cJ9_appendNull 58 = .ok (.bastore, 1) := dk_84 (dk_at dksJ9_appendNull_2 10 rfl rfl)
theorem dJ9_appendNull_59 : decode cJ9_appendNull 59 = .ok (.goto 17, 3) := dk_167 0 17 (dk_at dksJ9_appendNull_2 11 rfl rfl)
theorem dJ9_appendNull_62 : decode cJ9_appendNull 62 = .ok (.aload_n 2, 1) := dk_44 (dk_at dksJ9_appendNull_2 14 rfl rfl)
theorem dJ9_appendNull_63 : decode cJ9_appendNull 63 = .ok (.iload_n 1, 1) := dk_27 (dk_at dksJ9_appendNull_2 15 rfl rfl)
theorem dJ9_appendNull_64 : decode cJ9_appendNull 64 = .ok (.bipush 110, 2) := dk_16 110 (dk_at dksJ9_appendNull_2 16 rfl rfl)
theorem dJ9_appendNull_66 : decode cJ9_appendNull 66 = .ok (.bipush 117, 2) := dk_16 117 (dk_at dksJ9_appendNull_2 18 rfl rfl)
theorem dJ9_appendNull_68 : decode cJ9_appendNull 68 = .ok (.bipush 108, 2) := dk_16 108 (dk_at dksJ9_appendNull_2 20 rfl rfl)
theorem dJ9_appendNull_70 : decode cJ9_appendNull 70 = .ok (.bipush 108, 2) := dk_16 108 (dk_at dksJ9_appendNull_2 22 rfl rfl)
theorem dJ9_appendNull_72 : decode cJ9_appendNull 72 = .ok (.invokestatic 226, 3) := dk_184 0 226 (dk_at dksJ9_appendNull_3 0 rfl rfl)
theorem dJ9_appendNull_75 : decode cJ9_appendNull 75 = .ok (.istore_n 1, 1) := dk_60 (dk_at dksJ9_appendNull_3 3 rfl rfl)
theorem dJ9_appendNull_76 : decode cJ9_appendNull 76 = .ok (.aload_n 0, 1) := dk_42 (dk_at dksJ9_appendNull_3 4 rfl rfl)
theorem dJ9_appendNull_77 : decode cJ9_appendNull 77 = .ok (.iload_n 1, 1) := dk_27 (dk_at dksJ9_appendNull_3 5 rfl rfl)
theorem dJ9_appendNull_78 : decode cJ9_appendNull 78 = .ok (.putfield 79, 3) := dk_181 0 79 (dk_at dksJ9_appendNull_3 6 rfl rfl)
theorem dJ9_appendNull_81 : decode cJ9_appendNull 81 = .ok (.aload_n 0, 1) := dk_42 (dk_at dksJ9_appendNull_3 9 rfl rfl)
theorem dJ9_appendNull_82 : decode cJ9_appendNull 82 = .ok (.areturn, 1) := dk_176 (dk_at dksJ9_appendNull_3 10 rfl rfl)
abbrev cJ9_putStringAt : ByteArray := prog_49_method_73_code
def yJ9_putStringAt : MethodName := ⟨RJ9, "putStringAt", "(ILjava/lang/String;)V"⟩
def dkwJ9_putStringAt_0 : List UInt8 := [42, 44, 182, 1, 141, 44, 42, 180, 0, 15, 27, 42, 180, 0, 22, 182, 1, 143, 177]
abbrev dktJ9_putStringAt_0 : List UInt8 := dkwJ9_putStringAt_0 ++ []
theorem dksJ9_putStringAt_0 : cJ9_putStringAt.data.toList.drop 0 = dktJ9_putStringAt_0 := by decide +kernel
theorem dJ9_putStringAt_0 : decode cJ9_putStringAt 0 = .ok (.aload_n 0, 1) := dk_42 (dk_at dksJ9_putStringAt_0 0 rfl rfl)
theorem dJ9_putStringAt_1 : decode cJ9_putStringAt 1 = .ok (.aload_n 2, 1) := dk_44 (dk_at dksJ9_putStringAt_0 1 rfl rfl)
theorem dJ9_putStringAt_2 : decode cJ9_putStringAt 2 = .ok (.invokevirtual 397, 3) := dk_182 1 141 (dk_at dksJ9_putStringAt_0 2 rfl rfl)
theorem dJ9_putStringAt_5 : decode cJ9_putStringAt 5 = .ok (.aload_n 2, 1) := dk_44 (dk_at dksJ9_putStringAt_0 5 rfl rfl)
theorem dJ9_putStringAt_6 : decode cJ9_putStringAt 6 = .ok (.aload_n 0, 1) := dk_42 (dk_at dksJ9_putStringAt_0 6 rfl rfl)
theorem dJ9_putStringAt_7 : decode cJ9_putStringAt 7 = .ok (.getfield 15, 3) := dk_180 0 15 (dk_at dksJ9_putStringAt_0 7 rfl rfl)
theorem dJ9_putStringAt_10 : decode cJ9_putStringAt 10 = .ok (.iload_n 1, 1) := dk_27 (dk_at dksJ9_putStringAt_0 10 rfl rfl)
theorem dJ9_putStringAt_11 : decode cJ9_putStringAt 11 = .ok (.aload_n 0, 1) := dk_42 (dk_at dksJ9_putStringAt_0 11 rfl rfl)
theorem dJ9_putStringAt_12 : decode cJ9_putStringAt 12 = .ok (.getfield 22, 3) := dk_180 0 22 (dk_at dksJ9_putStringAt_0 12 rfl rfl)
theorem dJ9_putStringAt_15 : decode cJ9_putStringAt 15 = .ok (.invokevirtual 399, 3) := dk_182 1 143 (dk_at dksJ9_putStringAt_0 15 rfl rfl)
theorem dJ9_putStringAt_18 : decode cJ9_putStringAt 18 = .ok (.return_, 1) := dk_177 (dk_at dksJ9_putStringAt_0 18 rfl rfl)
abbrev cJ9_inflateIfNeededFor : ByteArray := prog_49_method_71_code
def yJ9_inflateIfNeededFor : MethodName := ⟨RJ9, "inflateIfNeededFor", "(Ljava/lang/String;)V"⟩
def dkwJ9_inflateIfNeededFor_0 : List UInt8 := [178, 0, 18, 153, 0, 18, 42, 180, 0, 22, 43, 182, 0, 40, 159, 0, 7, 42, 182, 0, 195, 177]
abbrev dktJ9_inflateIfNeededFor_0 : List UInt8 := dkwJ9_inflateIfNeededFor_0 ++ []
theorem dksJ9_inflateIfNeededFor_0 : cJ9_inflateIfNeededFor.data.toList.drop 0 = dktJ9_inflateIfNeededFor_0 := by decide +kernel
theorem dJ9_inflateIfNeededFor_0 : decode cJ9_inflateIfNeededFor 0 = .ok (.getstatic 18, 3) := dk_178 0 18 (dk_at dksJ9_inflateIfNeededFor_0 0 rfl rfl)
theorem dJ9_inflateIfNeededFor_3 : decode cJ9_inflateIfNeededFor 3 = .ok (.ifCond .eq 18, 3) := dk_153 0 18 (dk_at dksJ9_inflateIfNeededFor_0 3 rfl rfl)
theorem dJ9_inflateIfNeededFor_6 : decode cJ9_inflateIfNeededFor 6 = .ok (.aload_n 0, 1) := dk_42 (dk_at dksJ9_inflateIfNeededFor_0 6 rfl rfl)
theorem dJ9_inflateIfNeededFor_7 : decode cJ9_inflateIfNeededFor 7 = .ok (.getfield 22, 3) := dk_180 0 22 (dk_at dksJ9_inflateIfNeededFor_0 7 rfl rfl)
theorem dJ9_inflateIfNeededFor_10 : decode cJ9_inflateIfNeededFor 10 = .ok (.aload_n 1, 1) := dk_43 (dk_at dksJ9_inflateIfNeededFor_0 10 rfl rfl)
theorem dJ9_inflateIfNeededFor_11 : decode cJ9_inflateIfNeededFor 11 = .ok (.invokevirtual 40, 3) := dk_182 0 40 (dk_at dksJ9_inflateIfNeededFor_0 11 rfl rfl)
theorem dJ9_inflateIfNeededFor_14 : decode cJ9_inflateIfNeededFor 14 = .ok (.if_icmp .eq 7, 3) := dk_159 0 7 (dk_at dksJ9_inflateIfNeededFor_0 14 rfl rfl)
theorem dJ9_inflateIfNeededFor_17 : decode cJ9_inflateIfNeededFor 17 = .ok (.aload_n 0, 1) := dk_42 (dk_at dksJ9_inflateIfNeededFor_0 17 rfl rfl)
theorem dJ9_inflateIfNeededFor_18 : decode cJ9_inflateIfNeededFor 18 = .ok (.invokevirtual 195, 3) := dk_182 0 195 (dk_at dksJ9_inflateIfNeededFor_0 18 rfl rfl)
theorem dJ9_inflateIfNeededFor_21 : decode cJ9_inflateIfNeededFor 21 = .ok (.return_, 1) := dk_177 (dk_at dksJ9_inflateIfNeededFor_0 21 rfl rfl)
abbrev cJ9_compareTo : ByteArray := prog_49_method_5_code
def yJ9_compareTo : MethodName := ⟨RJ9, "compareTo", "(Ljava/lang/AbstractStringBuilder;)I"⟩
def dkwJ9_compareTo_4 : List UInt8 := [184, 0, 97, 172]
abbrev dktJ9_compareTo_4 : List UInt8 := dkwJ9_compareTo_4 ++ []
def dkwJ9_compareTo_3 : List UInt8 := [182, 0, 83, 153, 0, 15, 44, 45, 21, 4, 21, 5, 184, 0, 94, 167, 0, 12, 44, 45, 21, 4, 21, 5]
abbrev dktJ9_compareTo_3 : List UInt8 := dkwJ9_compareTo_3 ++ dktJ9_compareTo_4
def dkwJ9_compareTo_2 : List UInt8 := [45, 21, 4, 21, 5, 184, 0, 87, 167, 0, 12, 44, 45, 21, 4, 21, 5, 184, 0, 93, 172, 42]
abbrev dktJ9_compareTo_2 : List UInt8 := dkwJ9_compareTo_2 ++ dktJ9_compareTo_3
def dkwJ9_compareTo_1 : List UInt8 := [180, 0, 79, 54, 5, 42, 180, 0, 22, 43, 180, 0, 22, 160, 0, 32, 42, 182, 0, 83, 153, 0, 15, 44]
abbrev dktJ9_compareTo_1 : List UInt8 := dkwJ9_compareTo_1 ++ dktJ9_compareTo_2
def dkwJ9_compareTo_0 : List UInt8 := [42, 43, 166, 0, 5, 3, 172, 42, 180, 0, 15, 77, 43, 180, 0, 15, 78, 42, 180, 0, 79, 54, 4, 43]
abbrev dktJ9_compareTo_0 : List UInt8 := dkwJ9_compareTo_0 ++ dktJ9_compareTo_1
theorem dksJ9_compareTo_0 : cJ9_compareTo.data.toList.drop 0 = dktJ9_compareTo_0 := by decide +kernel
theorem dksJ9_compareTo_1 : cJ9_compareTo.data.toList.drop 24 = dktJ9_compareTo_1 := dk_seg dksJ9_compareTo_0 24 rfl rfl
theorem dksJ9_compareTo_2 : cJ9_compareTo.data.toList.drop 48 = dktJ9_compareTo_2 := dk_seg dksJ9_compareTo_1 24 rfl rfl
theorem dksJ9_compareTo_3 : cJ9_compareTo.data.toList.drop 70 = dktJ9_compareTo_3 := dk_seg dksJ9_compareTo_2 22 rfl rfl
theorem dksJ9_compareTo_4 : cJ9_compareTo.data.toList.drop 94 = dktJ9_compareTo_4 := dk_seg dksJ9_compareTo_3 24 rfl rfl
theorem dJ9_compareTo_0 : decode cJ9_compareTo 0 = .ok (.aload_n 0, 1) := dk_42 (dk_at dksJ9_compareTo_0 0 rfl rfl)
theorem dJ9_compareTo_1 : decode cJ9_compareTo 1 = .ok (.aload_n 1, 1) := dk_43 (dk_at dksJ9_compareTo_0 1 rfl rfl)
theorem dJ9_compareTo_2 : decode cJ9_compareTo 2 = .ok (.if_acmp .ne 5, 3) := dk_166 0 5 (dk_at dksJ9_compareTo_0 2 rfl rfl)
theorem dJ9_compareTo_5 : decode cJ9_compareTo 5 = .ok (.iconst 0, 1) := dk_3 (dk_at dksJ9_compareTo_0 5 rfl rfl)
theorem dJ9_compareTo_6 : decode cJ9_compareTo 6 = .ok (.ireturn, 1) := dk_172 (dk_at dksJ9_compareTo_0 6 rfl rfl)
theorem dJ9_compareTo_7 : decode cJ9_compareTo 7 = .ok (.aload_n 0, 1) := dk_42 (dk_at dksJ9_compareTo_0 7 rfl rfl)
theorem dJ9_compareTo_8 : decode cJ9_compareTo 8 = .ok (.getfield 15, 3) := dk_180 0 15 (dk_at dksJ9_compareTo_0 8 rfl rfl)
theorem dJ9_compareTo_11 : decode cJ9_compareTo 11 = .ok (.astore_n 2, 1) := dk_77 (dk_at dksJ9_compareTo_0 11 rfl rfl)
theorem dJ9_compareTo_12 : decode cJ9_compareTo 12 = .ok (.aload_n 1, 1) := dk_43 (dk_at dksJ9_compareTo_0 12 rfl rfl)
theorem dJ9_compareTo_13 : decode cJ9_compareTo 13 = .ok (.getfield 15, 3) := dk_180 0 15 (dk_at dksJ9_compareTo_0 13 rfl rfl)
theorem dJ9_compareTo_16 : decode cJ9_compareTo 16 = .ok (.astore_n 3, 1) := dk_78 (dk_at dksJ9_compareTo_0 16 rfl rfl)
theorem dJ9_compareTo_17 : decode cJ9_compareTo 17 = .ok (.aload_n 0, 1) := dk_42 (dk_at dksJ9_compareTo_0 17 rfl rfl)
theorem dJ9_compareTo_18 : decode cJ9_compareTo 18 = .ok (.getfield 79, 3) := dk_180 0 79 (dk_at dksJ9_compareTo_0 18 rfl rfl)
theorem dJ9_compareTo_21 : decode cJ9_compareTo 21 = .ok (.istore 4, 2) := dk_54 4 (dk_at dksJ9_compareTo_0 21 rfl rfl)
theorem dJ9_compareTo_23 : decode cJ9_compareTo 23 = .ok (.aload_n 1, 1) := dk_43 (dk_at dksJ9_compareTo_0 23 rfl rfl)
theorem dJ9_compareTo_24 : decode cJ9_compareTo 24 = .ok (.getfield 79, 3) := dk_180 0 79 (dk_at dksJ9_compareTo_1 0 rfl rfl)
theorem dJ9_compareTo_27 : decode cJ9_compareTo 27 = .ok (.istore 5, 2) := dk_54 5 (dk_at dksJ9_compareTo_1 3 rfl rfl)
theorem dJ9_compareTo_29 : decode cJ9_compareTo 29 = .ok (.aload_n 0, 1) := dk_42 (dk_at dksJ9_compareTo_1 5 rfl rfl)
theorem dJ9_compareTo_30 : decode cJ9_compareTo 30 = .ok (.getfield 22, 3) := dk_180 0 22 (dk_at dksJ9_compareTo_1 6 rfl rfl)
theorem dJ9_compareTo_33 : decode cJ9_compareTo 33 = .ok (.aload_n 1, 1) := dk_43 (dk_at dksJ9_compareTo_1 9 rfl rfl)
theorem dJ9_compareTo_34 : decode cJ9_compareTo 34 = .ok (.getfield 22, 3) := dk_180 0 22 (dk_at dksJ9_compareTo_1 10 rfl rfl)
theorem dJ9_compareTo_37 : decode cJ9_compareTo 37 = .ok (.if_icmp .ne 32, 3) := dk_160 0 32 (dk_at dksJ9_compareTo_1 13 rfl rfl)
theorem dJ9_compareTo_40 : decode cJ9_compareTo 40 = .ok (.aload_n 0, 1) := dk_42 (dk_at dksJ9_compareTo_1 16 rfl rfl)
theorem dJ9_compareTo_41 : decode cJ9_compareTo 41 = .ok (.invokevirtual 83, 3) := dk_182 0 83 (dk_at dksJ9_compareTo_1 17 rfl rfl)
theorem dJ9_compareTo_44 : decode cJ9_compareTo 44 = .ok (.ifCond .eq 15, 3) := dk_153 0 15 (dk_at dksJ9_compareTo_1 20 rfl rfl)
theorem dJ9_compareTo_47 : decode cJ9_compareTo 47 = .ok (.aload_n 2, 1) := dk_44 (dk_at dksJ9_compareTo_1 23 rfl rfl)
theorem dJ9_compareTo_48 : decode cJ9_compareTo 48 = .ok (.aload_n 3, 1) := dk_45 (dk_at dksJ9_compareTo_2 0 rfl rfl)
theorem dJ9_compareTo_49 : decode cJ9_compareTo 49 = .ok (.iload 4, 2) := dk_21 4 (dk_at dksJ9_compareTo_2 1 rfl rfl)
theorem dJ9_compareTo_51 : decode cJ9_compareTo 51 = .ok (.iload 5, 2) := dk_21 5 (dk_at dksJ9_compareTo_2 3 rfl rfl)
theorem dJ9_compareTo_53 : decode cJ9_compareTo 53 = .ok (.invokestatic 87, 3) := dk_184 0 87 (dk_at dksJ9_compareTo_2 5 rfl rfl)
theorem dJ9_compareTo_56 : decode cJ9_compareTo 56 = .ok (.goto 12, 3) := dk_167 0 12 (dk_at dksJ9_compareTo_2 8 rfl rfl)
theorem dJ9_compareTo_59 : decode cJ9_compareTo 59 = .ok (.aload_n 2, 1) := dk_44 (dk_at dksJ9_compareTo_2 11 rfl rfl)
theorem dJ9_compareTo_60 : decode cJ9_compareTo 60 = .ok (.aload_n 3, 1) := dk_45 (dk_at dksJ9_compareTo_2 12 rfl rfl)
theorem dJ9_compareTo_61 : decode cJ9_compareTo 61 = .ok (.iload 4, 2) := dk_21 4 (dk_at dksJ9_compareTo_2 13 rfl rfl)
theorem dJ9_compareTo_63 : decode cJ9_compareTo 63 = .ok (.iload 5, 2) := dk_21 5 (dk_at dksJ9_compareTo_2 15 rfl rfl)
theorem dJ9_compareTo_65 : decode cJ9_compareTo 65 = .ok (.invokestatic 93, 3) := dk_184 0 93 (dk_at dksJ9_compareTo_2 17 rfl rfl)
theorem dJ9_compareTo_68 : decode cJ9_compareTo 68 = .ok (.ireturn, 1) := dk_172 (dk_at dksJ9_compareTo_2 20 rfl rfl)
theorem dJ9_compareTo_69 : decode cJ9_compareTo 69 = .ok (.aload_n 0, 1) := dk_42 (dk_at dksJ9_compareTo_2 21 rfl rfl)
theorem dJ9_compareTo_70 : decode cJ9_compareTo 70 = .ok (.invokevirtual 83, 3) := dk_182 0 83 (dk_at dksJ9_compareTo_3 0 rfl rfl)
theorem dJ9_compareTo_73 : decode cJ9_compareTo 73 = .ok (.ifCond .eq 15, 3) := dk_153 0 15 (dk_at dksJ9_compareTo_3 3 rfl rfl)
theorem dJ9_compareTo_76 : decode cJ9_compareTo 76 = .ok (.aload_n 2, 1) := dk_44 (dk_at dksJ9_compareTo_3 6 rfl rfl)
theorem dJ9_compareTo_77 : decode cJ9_compareTo 77 = .ok (.aload_n 3, 1) := dk_45 (dk_at dksJ9_compareTo_3 7 rfl rfl)
theorem dJ9_compareTo_78 : decode cJ9_compareTo 78 = .ok (.iload 4, 2) := dk_21 4 (dk_at dksJ9_compareTo_3 8 rfl rfl)
theorem dJ9_compareTo_80 : decode cJ9_compareTo 80 = .ok (.iload 5, 2) := dk_21 5 (dk_at dksJ9_compareTo_3 10 rfl rfl)
theorem dJ9_compareTo_82 : decode cJ9_compareTo 82 = .ok (.invokestatic 94, 3) := dk_184 0 94 (dk_at dksJ9_compareTo_3 12 rfl rfl)
theorem dJ9_compareTo_85 : decode cJ9_compareTo 85 = .ok (.goto 12, 3) := dk_167 0 12 (dk_at dksJ9_compareTo_3 15 rfl rfl)
theorem dJ9_compareTo_88 : decode cJ9_compareTo 88 = .ok (.aload_n 2, 1) := dk_44 (dk_at dksJ9_compareTo_3 18 rfl rfl)
theorem dJ9_compareTo_89 : decode cJ9_compareTo 89 = .ok (.aload_n 3, 1) := dk_45 (dk_at dksJ9_compareTo_3 19 rfl rfl)
theorem dJ9_compareTo_90 : decode cJ9_compareTo 90 = .ok (.iload 4, 2) := dk_21 4 (dk_at dksJ9_compareTo_3 20 rfl rfl)
theorem dJ9_compareTo_92 : decode cJ9_compareTo 92 = .ok (.iload 5, 2) := dk_21 5 (dk_at dksJ9_compareTo_3 22 rfl rfl)
theorem dJ9_compareTo_94 : decode cJ9_compareTo 94 = .ok (.invokestatic 97, 3) := dk_184 0 97 (dk_at dksJ9_compareTo_4 0 rfl rfl)
theorem dJ9_compareTo_97 : decode cJ9_compareTo 97 = .ok (.ireturn, 1) := dk_172 (dk_at dksJ9_compareTo_4 3 rfl rfl)
theorem q119 : (Jvm.Cond.initialized "java/lang/AbstractStringBuilder") ∈ lw_all := lw_g (lw_at lw_m1 20 rfl) rfl
theorem q362 : (Jvm.Cond.instanceMethod ({ cls := "java/lang/AbstractStringBuilder", name := "<init>", desc := "(I)V" } : Jvm.MethodName)) ∈ lw_all := lw_g (lw_at lw_m2 23 rfl) rfl
theorem q363 : (Jvm.Cond.code ({ cls := "java/lang/AbstractStringBuilder", name := "<init>", desc := "(I)V" } : Jvm.MethodName) prog_49_method_2_code (2 : Nat) (Option.none : Option Jvm.ClassFile.FieldType)) ∈ lw_all := lw_g (lw_at lw_m2 24 rfl) rfl
theorem q364 : (Jvm.Cond.methodLink "java/lang/AbstractStringBuilder" (3 : Nat) ({ cls := "java/lang/Object", name := "<init>", desc := "()V" } : Jvm.MethodName)) ∈ lw_all := lw_g (lw_at lw_m2 25 rfl) rfl
theorem q365 : (Jvm.Cond.fieldLink "java/lang/AbstractStringBuilder" (18 : Nat) "java/lang/String" "COMPACT_STRINGS" "Z") ∈ lw_all := lw_g (lw_at lw_m2 26 rfl) rfl
theorem q367 : (Jvm.Cond.methodLink "java/lang/AbstractStringBuilder" (26 : Nat) ({ cls := "java/lang/StringUTF16", name := "newBytesFor", desc := "(I)[B" } : Jvm.MethodName)) ∈ lw_all := lw_g (lw_at lw_m2 28 rfl) rfl
theorem q374 : (Jvm.Cond.fieldLink "java/lang/AbstractStringBuilder" (15 : Nat) "java/lang/AbstractStringBuilder" "value" "[B") ∈ lw_all := lw_g (lw_at lw_m2 35 rfl) rfl
theorem q375 : (Jvm.Cond.fieldLink "java/lang/AbstractStringBuilder" (22 : Nat) "java/lang/AbstractStringBuilder" "coder" "B") ∈ lw_all := lw_g (lw_at lw_m2 36 rfl) rfl
theorem q377 : (Jvm.Cond.fieldLink "java/lang/AbstractStringBuilder" (79 : Nat) "java/lang/AbstractStringBuilder" "count" "I") ∈ lw_all := lw_g (lw_at lw_m2 38 rfl) rfl
theorem q379 : (Jvm.Cond.soleField "java/lang/AbstractStringBuilder" "value") ∈ lw_all := lw_g (lw_at lw_m2 40 rfl) rfl
theorem q381 : (Jvm.Cond.soleField "java/lang/AbstractStringBuilder" "coder") ∈ lw_all := lw_g (lw_at lw_m2 42 rfl) rfl
theorem q383 : (Jvm.Cond.soleField "java/lang/AbstractStringBuilder" "maybeLatin1") ∈ lw_all := lw_g (lw_at lw_m2 44 rfl) rfl
theorem q385 : (Jvm.Cond.soleField "java/lang/AbstractStringBuilder" "count") ∈ lw_all := lw_g (lw_at lw_m2 46 rfl) rfl
theorem q393 : (Jvm.Cond.instanceMethod ({ cls := "java/lang/AbstractStringBuilder", name := "append", desc := "(C)Ljava/lang/AbstractStringBuilder;" } : Jvm.MethodName)) ∈ lw_all := lw_g (lw_at lw_m2 54 rfl) rfl
theorem q394 : (Jvm.Cond.code ({ cls := "java/lang/AbstractStringBuilder", name := "append", desc := "(C)Ljava/lang/AbstractStringBuilder;" } : Jvm.MethodName) prog_49_method_31_code (2 : Nat) (Option.some (Jvm.ClassFile.FieldType.object "java/lang/AbstractStringBuilder"))) ∈ lw_all := lw_g (lw_at lw_m2 55 rfl) rfl
theorem q395 : (Jvm.Cond.methodLink "java/lang/AbstractStringBuilder" (100 : Nat) ({ cls := "java/lang/AbstractStringBuilder", name := "ensureCapacityInternal", desc := "(I)V" } : Jvm.MethodName)) ∈ lw_all := lw_g (lw_at lw_m2 56 rfl) rfl
theorem q396 : (Jvm.Cond.privateMethod ({ cls := "java/lang/AbstractStringBuilder", name := "ensureCapacityInternal", desc := "(I)V" } : Jvm.MethodName)) ∈ lw_tbl := lw_at lw_m2 57 rfl
theorem q397 : (Jvm.Cond.instanceMethod ({ cls := "java/lang/AbstractStringBuilder", name := "ensureCapacityInternal", desc := "(I)V" } : Jvm.MethodName)) ∈ lw_all := lw_g (lw_at lw_m2 58 rfl) rfl
theorem q398 : (Jvm.Cond.code ({ cls := "java/lang/AbstractStringBuilder", name := "ensureCapacityInternal", desc := "(I)V" } : Jvm.MethodName) prog_49_method_9_code (3 : Nat) (Option.none : Option Jvm.ClassFile.FieldType)) ∈ lw_all := lw_g (lw_at lw_m2 59 rfl) rfl
theorem q399 : (Jvm.Cond.methodLink "java/lang/AbstractStringBuilder" (104 : Nat) ({ cls := "java/lang/AbstractStringBuilder", name := "newCapacity", desc := "(I)I" } : Jvm.MethodName)) ∈ lw_all := lw_g (lw_at lw_m2 60 rfl) rfl
theorem q400 : (Jvm.Cond.privateMethod ({ cls := "java/lang/AbstractStringBuilder", name := "newCapacity", desc := "(I)I" } : Jvm.MethodName)) ∈ lw_tbl := lw_at lw_m2 61 rfl
theorem q401 : (Jvm.Cond.instanceMethod ({ cls := "java/lang/AbstractStringBuilder", name := "newCapacity", desc := "(I)I" } : Jvm.MethodName)) ∈ lw_all := lw_g (lw_at lw_m2 62 rfl) rfl
theorem q402 : (Jvm.Cond.code ({ cls := "java/lang/AbstractStringBuilder", name := "newCapacity", desc := "(I)I" } : Jvm.MethodName) prog_49_method_10_code (6 : Nat) (Option.some Jvm.ClassFile.FieldType.int)) ∈ lw_all := lw_g (lw_at lw_m2 63 rfl) rfl
theorem q403 : (Jvm.Cond.methodLink "java/lang/AbstractStringBuilder" (114 : Nat) ({ cls := "jdk/internal/util/ArraysSupport", name := "newLength", desc := "(III)I" } : Jvm.MethodName)) ∈ lw_all := lw_g (lw_at lw_m2 64 rfl) rfl
theorem q413 : (Jvm.Cond.constant "java/lang/AbstractStringBuilder" (39 : Nat) (2147483647 : Int32)) ∈ lw_all := lw_g (lw_at lw_m2 74 rfl) rfl
theorem q414 : (Jvm.Cond.methodLink "java/lang/AbstractStringBuilder" (108 : Nat) ({ cls := "java/util/Arrays", name := "copyOf", desc := "([BI)[B" } : Jvm.MethodName)) ∈ lw_all := lw_g (lw_at lw_m2 75 rfl) rfl
theorem q430 : (Jvm.Cond.methodLink "java/lang/AbstractStringBuilder" (83 : Nat) ({ cls := "java/lang/AbstractStringBuilder", name := "isLatin1", desc := "()Z" } : Jvm.MethodName)) ∈ lw_all := lw_g (lw_at lw_m2 91 rfl) rfl
theorem q431 : (Jvm.Cond.instanceMethod ({ cls := "java/lang/AbstractStringBuilder", name := "isLatin1", desc := "()Z" } : Jvm.MethodName)) ∈ lw_all := lw_g (lw_at lw_m2 92 rfl) rfl
theorem q432 : (Jvm.Cond.sameMethod "java/lang/AbstractStringBuilder" "java/lang/AbstractStringBuilder" "isLatin1" "()Z") ∈ lw_all := lw_g (lw_at lw_m2 93 rfl) rfl
theorem q434 : (Jvm.Cond.code ({ cls := "java/lang/AbstractStringBuilder", name := "isLatin1", desc := "()Z" } : Jvm.MethodName) prog_49_method_68_code (1 : Nat) (Option.some Jvm.ClassFile.FieldType.boolean)) ∈ lw_all := lw_g (lw_at lw_m2 95 rfl) rfl
theorem q435 : (Jvm.Cond.methodLink "java/lang/AbstractStringBuilder" (191 : Nat) ({ cls := "java/lang/StringLatin1", name := "canEncode", desc := "(C)Z" } : Jvm.MethodName)) ∈ lw_all := lw_g (lw_at lw_m2 96 rfl) rfl
theorem q438 : (Jvm.Cond.methodLink "java/lang/AbstractStringBuilder" (195 : Nat) ({ cls := "java/lang/AbstractStringBuilder", name := "inflate", desc := "()V" } : Jvm.MethodName)) ∈ lw_all := lw_g (lw_at lw_m2 99 rfl) rfl
theorem q439 : (Jvm.Cond.privateMethod ({ cls := "java/lang/AbstractStringBuilder", name := "inflate", desc := "()V" } : Jvm.MethodName)) ∈ lw_tbl := lw_at lw_m2 100 rfl
theorem q440 : (Jvm.Cond.instanceMethod ({ cls := "java/lang/AbstractStringBuilder", name := "inflate", desc := "()V" } : Jvm.MethodName)) ∈ lw_all := lw_g (lw_at lw_m2 101 rfl) rfl
theorem q441 : (Jvm.Cond.code ({ cls := "java/lang/AbstractStringBuilder", name := "inflate", desc := "()V" } : Jvm.MethodName) prog_49_method_11_code (2 : Nat) (Option.none : Option Jvm.ClassFile.FieldType)) ∈ lw_all := lw_g (lw_at lw_m2 102 rfl) rfl
theorem q442 : (Jvm.Cond.methodLink "java/lang/AbstractStringBuilder" (125 : Nat) ({ cls := "java/lang/StringLatin1", name := "inflate", desc := "([BI[BII)V" } : Jvm.MethodName)) ∈ lw_all := lw_g (lw_at lw_m2 103 rfl) rfl
theorem q471 : (Jvm.Cond.methodLink "java/lang/AbstractStringBuilder" (197 : Nat) ({ cls := "java/lang/StringUTF16", name := "putCharSB", desc := "([BII)V" } : Jvm.MethodName)) ∈ lw_all := lw_g (lw_at lw_m2 132 rfl) rfl
theorem q497 : (Jvm.Cond.instanceMethod ({ cls := "java/lang/AbstractStringBuilder", name := "getValue", desc := "()[B" } : Jvm.MethodName)) ∈ lw_all := lw_g (lw_at lw_m2 158 rfl) rfl
theorem q498 : (Jvm.Cond.sameMethod "java/lang/AbstractStringBuilder" "java/lang/AbstractStringBuilder" "getValue" "()[B") ∈ lw_all := lw_g (lw_at lw_m2 159 rfl) rfl
theorem q500 : (Jvm.Cond.code ({ cls := "java/lang/AbstractStringBuilder", name := "getValue", desc := "()[B" } : Jvm.MethodName) prog_49_method_64_code (1 : Nat) (Option.some (Jvm.ClassFile.FieldType.array Jvm.ClassFile.FieldType.byte))) ∈ lw_all := lw_g (lw_at lw_m2 161 rfl) rfl
theorem q502 : (Jvm.Cond.instanceMethod ({ cls := "java/lang/AbstractStringBuilder", name := "length", desc := "()I" } : Jvm.MethodName)) ∈ lw_all := lw_g (lw_at lw_m2 163 rfl) rfl
theorem q503 : (Jvm.Cond.sameMethod "java/lang/AbstractStringBuilder" "java/lang/AbstractStringBuilder" "length" "()I") ∈ lw_all := lw_g (lw_at lw_m2 164 rfl) rfl
theorem q508 : (Jvm.Cond.code ({ cls := "java/lang/AbstractStringBuilder", name := "length", desc := "()I" } : Jvm.MethodName) prog_49_method_6_code (1 : Nat) (Option.some Jvm.ClassFile.FieldType.int)) ∈ lw_all := lw_g (lw_at lw_m2 169 rfl) rfl
theorem q569 : (Jvm.Cond.instanceMethod ({ cls := "java/lang/AbstractStringBuilder", name := "append", desc := "(I)Ljava/lang/AbstractStringBuilder;" } : Jvm.MethodName)) ∈ lw_all := lw_g (lw_at lw_m2 230 rfl) rfl
theorem q570 : (Jvm.Cond.code ({ cls := "java/lang/AbstractStringBuilder", name := "append", desc := "(I)Ljava/lang/AbstractStringBuilder;" } : Jvm.MethodName) prog_49_method_32_code (4 : Nat) (Option.some (Jvm.ClassFile.FieldType.object "java/lang/AbstractStringBuilder"))) ∈ lw_all := lw_g (lw_at lw_m2 231 rfl) rfl
theorem q571 : (Jvm.Cond.methodLink "java/lang/AbstractStringBuilder" (245 : Nat) ({ cls := "java/lang/Integer", name := "stringSize", desc := "(I)I" } : Jvm.MethodName)) ∈ lw_all := lw_g (lw_at lw_m2 232 rfl) rfl
theorem q574 : (Jvm.Cond.methodLink "java/lang/AbstractStringBuilder" (248 : Nat) ({ cls := "java/lang/Integer", name := "getChars", desc := "(II[B)I" } : Jvm.MethodName)) ∈ lw_all := lw_g (lw_at lw_m2 235 rfl) rfl
theorem q581 : (Jvm.Cond.methodLink "java/lang/AbstractStringBuilder" (251 : Nat) ({ cls := "java/lang/StringUTF16", name := "getChars", desc := "(III[B)I" } : Jvm.MethodName)) ∈ lw_all := lw_g (lw_at lw_m3 2 rfl) rfl
theorem q604 : (Jvm.Cond.instanceMethod ({ cls := "java/lang/AbstractStringBuilder", name := "append", desc := "(Ljava/lang/String;)Ljava/lang/AbstractStringBuilder;" } : Jvm.MethodName)) ∈ lw_all := lw_g (lw_at lw_m3 25 rfl) rfl
theorem q605 : (Jvm.Cond.code ({ cls := "java/lang/AbstractStringBuilder", name := "append", desc := "(Ljava/lang/String;)Ljava/lang/AbstractStringBuilder;" } : Jvm.MethodName) prog_49_method_22_code (3 : Nat) (Option.some (Jvm.ClassFile.FieldType.object "java/lang/AbstractStringBuilder"))) ∈ lw_all := lw_g (lw_at lw_m3 26 rfl) rfl
theorem q606 : (Jvm.Cond.methodLink "java/lang/AbstractStringBuilder" (204 : Nat) ({ cls := "java/lang/AbstractStringBuilder", name := "appendNull", desc := "()Ljava/lang/AbstractStringBuilder;" } : Jvm.MethodName)) ∈ lw_all := lw_g (lw_at lw_m3 27 rfl) rfl
theorem q607 : (Jvm.Cond.privateMethod ({ cls := "java/lang/AbstractStringBuilder", name := "appendNull", desc := "()Ljava/lang/AbstractStringBuilder;" } : Jvm.MethodName)) ∈ lw_tbl := lw_at lw_m3 28 rfl
theorem q608 : (Jvm.Cond.instanceMethod ({ cls := "java/lang/AbstractStringBuilder", name := "appendNull", desc := "()Ljava/lang/AbstractStringBuilder;" } : Jvm.MethodName)) ∈ lw_all := lw_g (lw_at lw_m3 29 rfl) rfl
theorem q609 : (Jvm.Cond.code ({ cls := "java/lang/AbstractStringBuilder", name := "appendNull", desc := "()Ljava/lang/AbstractStringBuilder;" } : Jvm.MethodName) prog_49_method_26_code (3 : Nat) (Option.some (Jvm.ClassFile.FieldType.object "java/lang/AbstractStringBuilder"))) ∈ lw_all := lw_g (lw_at lw_m3 30 rfl) rfl
theorem q610 : (Jvm.Cond.methodLink "java/lang/AbstractStringBuilder" (226 : Nat) ({ cls := "java/lang/StringUTF16", name := "putCharsAt", desc := "([BICCCC)I" } : Jvm.MethodName)) ∈ lw_all := lw_g (lw_at lw_m3 31 rfl) rfl
theorem q613 : (Jvm.Cond.methodLink "java/lang/AbstractStringBuilder" (32 : Nat) ({ cls := "java/lang/String", name := "length", desc := "()I" } : Jvm.MethodName)) ∈ lw_all := lw_g (lw_at lw_m3 34 rfl) rfl
theorem q622 : (Jvm.Cond.methodLink "java/lang/AbstractStringBuilder" (208 : Nat) ({ cls := "java/lang/AbstractStringBuilder", name := "putStringAt", desc := "(ILjava/lang/String;)V" } : Jvm.MethodName)) ∈ lw_all := lw_g (lw_at lw_m3 43 rfl) rfl
theorem q623 : (Jvm.Cond.privateMethod ({ cls := "java/lang/AbstractStringBuilder", name := "putStringAt", desc := "(ILjava/lang/String;)V" } : Jvm.MethodName)) ∈ lw_tbl := lw_at lw_m3 44 rfl
theorem q624 : (Jvm.Cond.instanceMethod ({ cls := "java/lang/AbstractStringBuilder", name := "putStringAt", desc := "(ILjava/lang/String;)V" } : Jvm.MethodName)) ∈ lw_all := lw_g (lw_at lw_m3 45 rfl) rfl
theorem q625 : (Jvm.Cond.code ({ cls := "java/lang/AbstractStringBuilder", name := "putStringAt", desc := "(ILjava/lang/String;)V" } : Jvm.MethodName) prog_49_method_73_code (3 : Nat) (Option.none : Option Jvm.ClassFile.FieldType)) ∈ lw_all := lw_g (lw_at lw_m3 46 rfl) rfl
theorem q626 : (Jvm.Cond.methodLink "java/lang/AbstractStringBuilder" (397 : Nat) ({ cls := "java/lang/AbstractStringBuilder", name := "inflateIfNeededFor", desc := "(Ljava/lang/String;)V" } : Jvm.MethodName)) ∈ lw_all := lw_g (lw_at lw_m3 47 rfl) rfl
theorem q627 : (Jvm.Cond.privateMethod ({ cls := "java/lang/AbstractStringBuilder", name := "inflateIfNeededFor", desc := "(Ljava/lang/String;)V" } : Jvm.MethodName)) ∈ lw_tbl := lw_at lw_m3 48 rfl
theorem q628 : (Jvm.Cond.instanceMethod ({ cls := "java/lang/AbstractStringBuilder", name := "inflateIfNeededFor", desc := "(Ljava/lang/String;)V" } : Jvm.MethodName)) ∈ lw_all := lw_g (lw_at lw_m3 49 rfl) rfl
theorem q629 : (Jvm.Cond.code ({ cls := "java/lang/AbstractStringBuilder", name := "inflateIfNeededFor", desc := "(Ljava/lang/String;)V" } : Jvm.MethodName) prog_49_method_71_code (2 : Nat) (Option.none : Option Jvm.ClassFile.FieldType)) ∈ lw_all := lw_g (lw_at lw_m3 50 rfl) rfl
theorem q630 : (Jvm.Cond.methodLink "java/lang/AbstractStringBuilder" (40 : Nat) ({ cls := "java/lang/String", name := "coder", desc := "()B" } : Jvm.MethodName)) ∈ lw_all := lw_g (lw_at lw_m3 51 rfl) rfl
theorem q631 : (Jvm.Cond.methodLink "java/lang/AbstractStringBuilder" (399 : Nat) ({ cls := "java/lang/String", name := "getBytes", desc := "([BIB)V" } : Jvm.MethodName)) ∈ lw_all := lw_g (lw_at lw_m3 52 rfl) rfl
theorem q1522 : (Jvm.Cond.instanceMethod ({ cls := "java/lang/AbstractStringBuilder", name := "compareTo", desc := "(Ljava/lang/AbstractStringBuilder;)I" } : Jvm.MethodName)) ∈ lw_all := lw_g (lw_at lw_m6 223 rfl) rfl
theorem q1523 : (Jvm.Cond.code ({ cls := "java/lang/AbstractStringBuilder", name := "compareTo", desc := "(Ljava/lang/AbstractStringBuilder;)I" } : Jvm.MethodName) prog_49_method_5_code (6 : Nat) (Option.some Jvm.ClassFile.FieldType.int)) ∈ lw_all := lw_g (lw_at lw_m6 224 rfl) rfl
theorem q1524 : (Jvm.Cond.methodLink "java/lang/AbstractStringBuilder" (87 : Nat) ({ cls := "java/lang/StringLatin1", name := "compareTo", desc := "([B[BII)I" } : Jvm.MethodName)) ∈ lw_all := lw_g (lw_at lw_m6 225 rfl) rfl
theorem q1525 : (Jvm.Cond.methodLink "java/lang/AbstractStringBuilder" (93 : Nat) ({ cls := "java/lang/StringUTF16", name := "compareTo", desc := "([B[BII)I" } : Jvm.MethodName)) ∈ lw_all := lw_g (lw_at lw_m6 226 rfl) rfl
theorem q1534 : (Jvm.Cond.methodLink "java/lang/AbstractStringBuilder" (94 : Nat) ({ cls := "java/lang/StringLatin1", name := "compareToUTF16", desc := "([B[BII)I" } : Jvm.MethodName)) ∈ lw_all := lw_g (lw_at lw_m6 235 rfl) rfl
theorem q1538 : (Jvm.Cond.methodLink "java/lang/AbstractStringBuilder" (97 : Nat) ({ cls := "java/lang/StringUTF16", name := "compareToLatin1", desc := "([B[BII)I" } : Jvm.MethodName)) ∈ lw_all := lw_g (lw_at lw_m6 239 rfl) rfl
theorem q3366 : (Jvm.Cond.sameMethod "java/lang/AbstractStringBuilder" "java/lang/AbstractStringBuilder" "append" "(C)Ljava/lang/AbstractStringBuilder;") ∈ lw_all := lw_g (lw_at lw_m14 147 rfl) rfl
theorem q3367 : (Jvm.Cond.sameMethod "java/lang/AbstractStringBuilder" "java/lang/AbstractStringBuilder" "ensureCapacityInternal" "(I)V") ∈ lw_all := lw_g (lw_at lw_m14 148 rfl) rfl
theorem q3368 : (Jvm.Cond.sameMethod "java/lang/AbstractStringBuilder" "java/lang/AbstractStringBuilder" "newCapacity" "(I)I") ∈ lw_all := lw_g (lw_at lw_m14 149 rfl) rfl
theorem q3369 : (Jvm.Cond.sameMethod "java/lang/AbstractStringBuilder" "java/lang/AbstractStringBuilder" "inflate" "()V") ∈ lw_all := lw_g (lw_at lw_m14 150 rfl) rfl
theorem q3371 : (Jvm.Cond.sameMethod "java/lang/AbstractStringBuilder" "java/lang/AbstractStringBuilder" "append" "(I)Ljava/lang/AbstractStringBuilder;") ∈ lw_all := lw_g (lw_at lw_m14 152 rfl) rfl
theorem q3372 : (Jvm.Cond.sameMethod "java/lang/AbstractStringBuilder" "java/lang/AbstractStringBuilder" "append" "(Ljava/lang/String;)Ljava/lang/AbstractStringBuilder;") ∈ lw_all := lw_g (lw_at lw_m14 153 rfl) rfl
theorem q3373 : (Jvm.Cond.sameMethod "java/lang/AbstractStringBuilder" "java/lang/AbstractStringBuilder" "appendNull" "()Ljava/lang/AbstractStringBuilder;") ∈ lw_all := lw_g (lw_at lw_m14 154 rfl) rfl
theorem q3374 : (Jvm.Cond.sameMethod "java/lang/AbstractStringBuilder" "java/lang/AbstractStringBuilder" "putStringAt" "(ILjava/lang/String;)V") ∈ lw_all := lw_g (lw_at lw_m14 155 rfl) rfl
theorem q3375 : (Jvm.Cond.sameMethod "java/lang/AbstractStringBuilder" "java/lang/AbstractStringBuilder" "inflateIfNeededFor" "(Ljava/lang/String;)V") ∈ lw_all := lw_g (lw_at lw_m14 156 rfl) rfl
theorem q3376 : (Jvm.Cond.sameMethod "java/lang/AbstractStringBuilder" "java/lang/AbstractStringBuilder" "compareTo" "(Ljava/lang/AbstractStringBuilder;)I") ∈ lw_all := lw_g (lw_at lw_m14 157 rfl) rfl

/-! java/lang/StringBuilder -/
def RJ10 : String := "java/lang/StringBuilder"
def TJ10 : u_T := fun k => match k with
  | 0 => ("java/lang/AbstractStringBuilder", "value", "[B", false)
  | 1 => ("java/lang/AbstractStringBuilder", "coder", "B", false)
  | 2 => ("java/lang/AbstractStringBuilder", "maybeLatin1", "Z", false)
  | _ => ("java/lang/AbstractStringBuilder", "count", "I", false)
def tyJ10 : Nat → FieldType := fun k => match k with
  | 0 => .array .byte
  | 1 => .byte
  | 2 => .boolean
  | _ => .int
abbrev wsJ100 : List Cond := u_ws RJ10 TJ10 4
theorem nmJ10 : ∀ a, a < 4 → ∀ b, b < 4 → a ≠ b → (TJ10 a).2.1 ≠ (TJ10 b).2.1 := by decide +kernel
theorem tyJ10_ok : ∀ k, k < 4 → parseFieldDescriptor (TJ10 k).2.2.1 = some (tyJ10 k) := by decide +kernel
abbrev cJ10_init : ByteArray := prog_69_method_1_code
def yJ10_init : MethodName := ⟨RJ10, "<init>", "()V"⟩
def dkwJ10_init_0 : List UInt8 := [42, 16, 16, 183, 0, 1, 177]
abbrev dktJ10_init_0 : List UInt8 := dkwJ10_init_0 ++ []
theorem dksJ10_init_0 : cJ10_init.data.toList.drop 0 = dktJ10_init_0 := by decide +kernel
theorem dJ10_init_0 : decode cJ10_init 0 = .ok (.aload_n 0, 1) := dk_42 (dk_at dksJ10_init_0 0 rfl rfl)
theorem dJ10_init_1 : decode cJ10_init 1 = .ok (.bipush 16, 2) := dk_16 16 (dk_at dksJ10_init_0 1 rfl rfl)
theorem dJ10_init_3 : decode cJ10_init 3 = .ok (.invokespecial 1, 3) := dk_183 0 1 (dk_at dksJ10_init_0 3 rfl rfl)
theorem dJ10_init_6 : decode cJ10_init 6 = .ok (.return_, 1) := dk_177 (dk_at dksJ10_init_0 6 rfl rfl)
abbrev cJ10_append : ByteArray := prog_69_method_14_code
def yJ10_append : MethodName := ⟨RJ10, "append", "(C)Ljava/lang/StringBuilder;"⟩
def dkwJ10_append_0 : List UInt8 := [42, 27, 183, 0, 50, 87, 42, 176]
abbrev dktJ10_append_0 : List UInt8 := dkwJ10_append_0 ++ []
theorem dksJ10_append_0 : cJ10_append.data.toList.drop 0 = dktJ10_append_0 := by decide +kernel
theorem dJ10_append_0 : decode cJ10_append 0 = .ok (.aload_n 0, 1) := dk_42 (dk_at dksJ10_append_0 0 rfl rfl)
theorem dJ10_append_1 : decode cJ10_append 1 = .ok (.iload_n 1, 1) := dk_27 (dk_at dksJ10_append_0 1 rfl rfl)
theorem dJ10_append_2 : decode cJ10_append 2 = .ok (.invokespecial 50, 3) := dk_183 0 50 (dk_at dksJ10_append_0 2 rfl rfl)
theorem dJ10_append_5 : decode cJ10_append 5 = .ok (.pop, 1) := dk_87 (dk_at dksJ10_append_0 5 rfl rfl)
theorem dJ10_append_6 : decode cJ10_append 6 = .ok (.aload_n 0, 1) := dk_42 (dk_at dksJ10_append_0 6 rfl rfl)
theorem dJ10_append_7 : decode cJ10_append 7 = .ok (.areturn, 1) := dk_176 (dk_at dksJ10_append_0 7 rfl rfl)
abbrev cJ10_toString : ByteArray := prog_69_method_42_code
def yJ10_toString : MethodName := ⟨RJ10, "toString", "()Ljava/lang/String;"⟩
def dkwJ10_toString_0 : List UInt8 := [187, 0, 18, 89, 42, 183, 0, 137, 176]
abbrev dktJ10_toString_0 : List UInt8 := dkwJ10_toString_0 ++ []
theorem dksJ10_toString_0 : cJ10_toString.data.toList.drop 0 = dktJ10_toString_0 := by decide +kernel
theorem dJ10_toString_0 : decode cJ10_toString 0 = .ok (.new 18, 3) := dk_187 0 18 (dk_at dksJ10_toString_0 0 rfl rfl)
theorem dJ10_toString_3 : decode cJ10_toString 3 = .ok (.dup, 1) := dk_89 (dk_at dksJ10_toString_0 3 rfl rfl)
theorem dJ10_toString_4 : decode cJ10_toString 4 = .ok (.aload_n 0, 1) := dk_42 (dk_at dksJ10_toString_0 4 rfl rfl)
theorem dJ10_toString_5 : decode cJ10_toString 5 = .ok (.invokespecial 137, 3) := dk_183 0 137 (dk_at dksJ10_toString_0 5 rfl rfl)
theorem dJ10_toString_8 : decode cJ10_toString 8 = .ok (.areturn, 1) := dk_176 (dk_at dksJ10_toString_0 8 rfl rfl)
abbrev cJ10_length : ByteArray := prog_69_method_93_code
def yJ10_length : MethodName := ⟨RJ10, "length", "()I"⟩
theorem dJ10_length_0 : decode cJ10_length 0 = .ok (.aload_n 0, 1) := by decide +kernel
theorem dJ10_length_1 : decode cJ10_length 1 = .ok (.invokespecial 343, 3) := by decide +kernel
theorem dJ10_length_4 : decode cJ10_length 4 = .ok (.ireturn, 1) := by decide +kernel
abbrev cJ10_append_2 : ByteArray := prog_69_method_15_code
def yJ10_append_2 : MethodName := ⟨RJ10, "append", "(I)Ljava/lang/StringBuilder;"⟩
def dkwJ10_append_2_0 : List UInt8 := [42, 27, 183, 0, 53, 87, 42, 176]
abbrev dktJ10_append_2_0 : List UInt8 := dkwJ10_append_2_0 ++ []
theorem dksJ10_append_2_0 : cJ10_append_2.data.toList.drop 0 = dktJ10_append_2_0 := by decide +kernel
theorem dJ10_append_2_0 : decode cJ10_append_2 0 = .ok (.aload_n 0, 1) := dk_42 (dk_at dksJ10_append_2_0 0 rfl rfl)
theorem dJ10_append_2_1 : decode cJ10_append_2 1 = .ok (.iload_n 1, 1) := dk_27 (dk_at dksJ10_append_2_0 1 rfl rfl)
theorem dJ10_append_2_2 : decode cJ10_append_2 2 = .ok (.invokespecial 53, 3) := dk_183 0 53 (dk_at dksJ10_append_2_0 2 rfl rfl)
theorem dJ10_append_2_5 : decode cJ10_append_2 5 = .ok (.pop, 1) := dk_87 (dk_at dksJ10_append_2_0 5 rfl rfl)
theorem dJ10_append_2_6 : decode cJ10_append_2 6 = .ok (.aload_n 0, 1) := dk_42 (dk_at dksJ10_append_2_0 6 rfl rfl)
theorem dJ10_append_2_7 : decode cJ10_append_2 7 = .ok (.areturn, 1) := dk_176 (dk_at dksJ10_append_2_0 7 rfl rfl)
abbrev cJ10_append_3 : ByteArray := prog_69_method_7_code
def yJ10_append_3 : MethodName := ⟨RJ10, "append", "(Ljava/lang/String;)Ljava/lang/StringBuilder;"⟩
def dkwJ10_append_3_0 : List UInt8 := [42, 43, 183, 0, 29, 87, 42, 176]
abbrev dktJ10_append_3_0 : List UInt8 := dkwJ10_append_3_0 ++ []
theorem dksJ10_append_3_0 : cJ10_append_3.data.toList.drop 0 = dktJ10_append_3_0 := by decide +kernel
theorem dJ10_append_3_0 : decode cJ10_append_3 0 = .ok (.aload_n 0, 1) := dk_42 (dk_at dksJ10_append_3_0 0 rfl rfl)
theorem dJ10_append_3_1 : decode cJ10_append_3 1 = .ok (.aload_n 1, 1) := dk_43 (dk_at dksJ10_append_3_0 1 rfl rfl)
theorem dJ10_append_3_2 : decode cJ10_append_3 2 = .ok (.invokespecial 29, 3) := dk_183 0 29 (dk_at dksJ10_append_3_0 2 rfl rfl)
theorem dJ10_append_3_5 : decode cJ10_append_3 5 = .ok (.pop, 1) := dk_87 (dk_at dksJ10_append_3_0 5 rfl rfl)
theorem dJ10_append_3_6 : decode cJ10_append_3 6 = .ok (.aload_n 0, 1) := dk_42 (dk_at dksJ10_append_3_0 6 rfl rfl)
theorem dJ10_append_3_7 : decode cJ10_append_3 7 = .ok (.areturn, 1) := dk_176 (dk_at dksJ10_append_3_0 7 rfl rfl)
abbrev cJ10_compareTo : ByteArray := prog_69_method_97_code
def yJ10_compareTo : MethodName := ⟨RJ10, "compareTo", "(Ljava/lang/Object;)I"⟩
def dkwJ10_compareTo_0 : List UInt8 := [42, 43, 192, 0, 24, 182, 1, 90, 172]
abbrev dktJ10_compareTo_0 : List UInt8 := dkwJ10_compareTo_0 ++ []
theorem dksJ10_compareTo_0 : cJ10_compareTo.data.toList.drop 0 = dktJ10_compareTo_0 := by decide +kernel
theorem dJ10_compareTo_0 : decode cJ10_compareTo 0 = .ok (.aload_n 0, 1) := dk_42 (dk_at dksJ10_compareTo_0 0 rfl rfl)
theorem dJ10_compareTo_1 : decode cJ10_compareTo 1 = .ok (.aload_n 1, 1) := dk_43 (dk_at dksJ10_compareTo_0 1 rfl rfl)
theorem dJ10_compareTo_2 : decode cJ10_compareTo 2 = .ok (.checkcast 24, 3) := dk_192 0 24 (dk_at dksJ10_compareTo_0 2 rfl rfl)
theorem dJ10_compareTo_5 : decode cJ10_compareTo 5 = .ok (.invokevirtual 346, 3) := dk_182 1 90 (dk_at dksJ10_compareTo_0 5 rfl rfl)
theorem dJ10_compareTo_8 : decode cJ10_compareTo 8 = .ok (.ireturn, 1) := dk_172 (dk_at dksJ10_compareTo_0 8 rfl rfl)
abbrev cJ10_compareTo_2 : ByteArray := prog_69_method_5_code
def yJ10_compareTo_2 : MethodName := ⟨RJ10, "compareTo", "(Ljava/lang/StringBuilder;)I"⟩
def dkwJ10_compareTo_2_0 : List UInt8 := [42, 43, 183, 0, 13, 172]
abbrev dktJ10_compareTo_2_0 : List UInt8 := dkwJ10_compareTo_2_0 ++ []
theorem dksJ10_compareTo_2_0 : cJ10_compareTo_2.data.toList.drop 0 = dktJ10_compareTo_2_0 := by decide +kernel
theorem dJ10_compareTo_2_0 : decode cJ10_compareTo_2 0 = .ok (.aload_n 0, 1) := dk_42 (dk_at dksJ10_compareTo_2_0 0 rfl rfl)
theorem dJ10_compareTo_2_1 : decode cJ10_compareTo_2 1 = .ok (.aload_n 1, 1) := dk_43 (dk_at dksJ10_compareTo_2_0 1 rfl rfl)
theorem dJ10_compareTo_2_2 : decode cJ10_compareTo_2 2 = .ok (.invokespecial 13, 3) := dk_183 0 13 (dk_at dksJ10_compareTo_2_0 2 rfl rfl)
theorem dJ10_compareTo_2_5 : decode cJ10_compareTo_2 5 = .ok (.ireturn, 1) := dk_172 (dk_at dksJ10_compareTo_2_0 5 rfl rfl)
theorem q120 : (Jvm.Cond.initialized "java/lang/StringBuilder") ∈ lw_all := lw_g (lw_at lw_m1 21 rfl) rfl
theorem q357 : (Jvm.Cond.instantiable "java/lang/StringBuilder" (4 : Nat)) ∈ lw_all := lw_g (lw_at lw_m2 18 rfl) rfl
theorem q359 : (Jvm.Cond.instanceMethod ({ cls := "java/lang/StringBuilder", name := "<init>", desc := "()V" } : Jvm.MethodName)) ∈ lw_all := lw_g (lw_at lw_m2 20 rfl) rfl
theorem q360 : (Jvm.Cond.code ({ cls := "java/lang/StringBuilder", name := "<init>", desc := "()V" } : Jvm.MethodName) prog_69_method_1_code (1 : Nat) (Option.none : Option Jvm.ClassFile.FieldType)) ∈ lw_all := lw_g (lw_at lw_m2 21 rfl) rfl
theorem q361 : (Jvm.Cond.methodLink "java/lang/StringBuilder" (1 : Nat) ({ cls := "java/lang/AbstractStringBuilder", name := "<init>", desc := "(I)V" } : Jvm.MethodName)) ∈ lw_all := lw_g (lw_at lw_m2 22 rfl) rfl
theorem q378 : (Jvm.Cond.lays "java/lang/StringBuilder" "java/lang/AbstractStringBuilder" "value" "[B") ∈ lw_all := lw_g (lw_at lw_m2 39 rfl) rfl
theorem q380 : (Jvm.Cond.lays "java/lang/StringBuilder" "java/lang/AbstractStringBuilder" "coder" "B") ∈ lw_all := lw_g (lw_at lw_m2 41 rfl) rfl
theorem q382 : (Jvm.Cond.lays "java/lang/StringBuilder" "java/lang/AbstractStringBuilder" "maybeLatin1" "Z") ∈ lw_all := lw_g (lw_at lw_m2 43 rfl) rfl
theorem q384 : (Jvm.Cond.lays "java/lang/StringBuilder" "java/lang/AbstractStringBuilder" "count" "I") ∈ lw_all := lw_g (lw_at lw_m2 45 rfl) rfl
theorem q386 : (Jvm.Cond.superclass "java/lang/StringBuilder" "java/lang/AbstractStringBuilder") ∈ lw_all := lw_g (lw_at lw_m2 47 rfl) rfl
theorem q389 : (Jvm.Cond.instanceMethod ({ cls := "java/lang/StringBuilder", name := "append", desc := "(C)Ljava/lang/StringBuilder;" } : Jvm.MethodName)) ∈ lw_all := lw_g (lw_at lw_m2 50 rfl) rfl
theorem q390 : (Jvm.Cond.selects "java/lang/StringBuilder" ({ cls := "java/lang/StringBuilder", name := "append", desc := "(C)Ljava/lang/StringBuilder;" } : Jvm.MethodName) ({ cls := "java/lang/StringBuilder", name := "append", desc := "(C)Ljava/lang/StringBuilder;" } : Jvm.MethodName)) ∈ lw_all := lw_g (lw_at lw_m2 51 rfl) rfl
theorem q391 : (Jvm.Cond.code ({ cls := "java/lang/StringBuilder", name := "append", desc := "(C)Ljava/lang/StringBuilder;" } : Jvm.MethodName) prog_69_method_14_code (2 : Nat) (Option.some (Jvm.ClassFile.FieldType.object "java/lang/StringBuilder"))) ∈ lw_all := lw_g (lw_at lw_m2 52 rfl) rfl
theorem q392 : (Jvm.Cond.methodLink "java/lang/StringBuilder" (50 : Nat) ({ cls := "java/lang/AbstractStringBuilder", name := "append", desc := "(C)Ljava/lang/AbstractStringBuilder;" } : Jvm.MethodName)) ∈ lw_all := lw_g (lw_at lw_m2 53 rfl) rfl
theorem q433 : (Jvm.Cond.selects "java/lang/StringBuilder" ({ cls := "java/lang/AbstractStringBuilder", name := "isLatin1", desc := "()Z" } : Jvm.MethodName) ({ cls := "java/lang/AbstractStringBuilder", name := "isLatin1", desc := "()Z" } : Jvm.MethodName)) ∈ lw_all := lw_g (lw_at lw_m2 94 rfl) rfl
theorem q484 : (Jvm.Cond.instanceMethod ({ cls := "java/lang/StringBuilder", name := "toString", desc := "()Ljava/lang/String;" } : Jvm.MethodName)) ∈ lw_all := lw_g (lw_at lw_m2 145 rfl) rfl
theorem q485 : (Jvm.Cond.selects "java/lang/StringBuilder" ({ cls := "java/lang/StringBuilder", name := "toString", desc := "()Ljava/lang/String;" } : Jvm.MethodName) ({ cls := "java/lang/StringBuilder", name := "toString", desc := "()Ljava/lang/String;" } : Jvm.MethodName)) ∈ lw_all := lw_g (lw_at lw_m2 146 rfl) rfl
theorem q486 : (Jvm.Cond.code ({ cls := "java/lang/StringBuilder", name := "toString", desc := "()Ljava/lang/String;" } : Jvm.MethodName) prog_69_method_42_code (1 : Nat) (Option.some (Jvm.ClassFile.FieldType.object "java/lang/String"))) ∈ lw_all := lw_g (lw_at lw_m2 147 rfl) rfl
theorem q487 : (Jvm.Cond.classLink "java/lang/StringBuilder" (18 : Nat) "java/lang/String") ∈ lw_all := lw_g (lw_at lw_m2 148 rfl) rfl
theorem q489 : (Jvm.Cond.methodLink "java/lang/StringBuilder" (137 : Nat) ({ cls := "java/lang/String", name := "<init>", desc := "(Ljava/lang/StringBuilder;)V" } : Jvm.MethodName)) ∈ lw_all := lw_g (lw_at lw_m2 150 rfl) rfl
theorem q499 : (Jvm.Cond.selects "java/lang/StringBuilder" ({ cls := "java/lang/AbstractStringBuilder", name := "getValue", desc := "()[B" } : Jvm.MethodName) ({ cls := "java/lang/AbstractStringBuilder", name := "getValue", desc := "()[B" } : Jvm.MethodName)) ∈ lw_all := lw_g (lw_at lw_m2 160 rfl) rfl
theorem q504 : (Jvm.Cond.selects "java/lang/StringBuilder" ({ cls := "java/lang/AbstractStringBuilder", name := "length", desc := "()I" } : Jvm.MethodName) ({ cls := "java/lang/StringBuilder", name := "length", desc := "()I" } : Jvm.MethodName)) ∈ lw_all := lw_g (lw_at lw_m2 165 rfl) rfl
theorem q505 : (Jvm.Cond.instanceMethod ({ cls := "java/lang/StringBuilder", name := "length", desc := "()I" } : Jvm.MethodName)) ∈ lw_all := lw_g (lw_at lw_m2 166 rfl) rfl
theorem q506 : (Jvm.Cond.code ({ cls := "java/lang/StringBuilder", name := "length", desc := "()I" } : Jvm.MethodName) prog_69_method_93_code (1 : Nat) (Option.some Jvm.ClassFile.FieldType.int)) ∈ lw_all := lw_g (lw_at lw_m2 167 rfl) rfl
theorem q507 : (Jvm.Cond.methodLink "java/lang/StringBuilder" (343 : Nat) ({ cls := "java/lang/AbstractStringBuilder", name := "length", desc := "()I" } : Jvm.MethodName)) ∈ lw_all := lw_g (lw_at lw_m2 168 rfl) rfl
theorem q565 : (Jvm.Cond.instanceMethod ({ cls := "java/lang/StringBuilder", name := "append", desc := "(I)Ljava/lang/StringBuilder;" } : Jvm.MethodName)) ∈ lw_all := lw_g (lw_at lw_m2 226 rfl) rfl
theorem q566 : (Jvm.Cond.selects "java/lang/StringBuilder" ({ cls := "java/lang/StringBuilder", name := "append", desc := "(I)Ljava/lang/StringBuilder;" } : Jvm.MethodName) ({ cls := "java/lang/StringBuilder", name := "append", desc := "(I)Ljava/lang/StringBuilder;" } : Jvm.MethodName)) ∈ lw_all := lw_g (lw_at lw_m2 227 rfl) rfl
theorem q567 : (Jvm.Cond.code ({ cls := "java/lang/StringBuilder", name := "append", desc := "(I)Ljava/lang/StringBuilder;" } : Jvm.MethodName) prog_69_method_15_code (2 : Nat) (Option.some (Jvm.ClassFile.FieldType.object "java/lang/StringBuilder"))) ∈ lw_all := lw_g (lw_at lw_m2 228 rfl) rfl
theorem q568 : (Jvm.Cond.methodLink "java/lang/StringBuilder" (53 : Nat) ({ cls := "java/lang/AbstractStringBuilder", name := "append", desc := "(I)Ljava/lang/AbstractStringBuilder;" } : Jvm.MethodName)) ∈ lw_all := lw_g (lw_at lw_m2 229 rfl) rfl
theorem q600 : (Jvm.Cond.instanceMethod ({ cls := "java/lang/StringBuilder", name := "append", desc := "(Ljava/lang/String;)Ljava/lang/StringBuilder;" } : Jvm.MethodName)) ∈ lw_all := lw_g (lw_at lw_m3 21 rfl) rfl
theorem q601 : (Jvm.Cond.selects "java/lang/StringBuilder" ({ cls := "java/lang/StringBuilder", name := "append", desc := "(Ljava/lang/String;)Ljava/lang/StringBuilder;" } : Jvm.MethodName) ({ cls := "java/lang/StringBuilder", name := "append", desc := "(Ljava/lang/String;)Ljava/lang/StringBuilder;" } : Jvm.MethodName)) ∈ lw_all := lw_g (lw_at lw_m3 22 rfl) rfl
theorem q602 : (Jvm.Cond.code ({ cls := "java/lang/StringBuilder", name := "append", desc := "(Ljava/lang/String;)Ljava/lang/StringBuilder;" } : Jvm.MethodName) prog_69_method_7_code (2 : Nat) (Option.some (Jvm.ClassFile.FieldType.object "java/lang/StringBuilder"))) ∈ lw_all := lw_g (lw_at lw_m3 23 rfl) rfl
theorem q603 : (Jvm.Cond.methodLink "java/lang/StringBuilder" (29 : Nat) ({ cls := "java/lang/AbstractStringBuilder", name := "append", desc := "(Ljava/lang/String;)Ljava/lang/AbstractStringBuilder;" } : Jvm.MethodName)) ∈ lw_all := lw_g (lw_at lw_m3 24 rfl) rfl
theorem q832 : (Jvm.Cond.selects "java/lang/StringBuilder" ({ cls := "java/lang/Object", name := "getClass", desc := "()Ljava/lang/Class;" } : Jvm.MethodName) ({ cls := "java/lang/Object", name := "getClass", desc := "()Ljava/lang/Class;" } : Jvm.MethodName)) ∈ lw_all := lw_g (lw_at lw_m4 13 rfl) rfl
theorem q1155 : (Jvm.Cond.selects "java/lang/StringBuilder" ({ cls := "java/lang/Object", name := "hashCode", desc := "()I" } : Jvm.MethodName) ({ cls := "java/lang/Object", name := "hashCode", desc := "()I" } : Jvm.MethodName)) ∈ lw_all := lw_g (lw_at lw_m5 96 rfl) rfl
theorem q1219 : (Jvm.Cond.selects "java/lang/StringBuilder" ({ cls := "java/lang/Object", name := "equals", desc := "(Ljava/lang/Object;)Z" } : Jvm.MethodName) ({ cls := "java/lang/Object", name := "equals", desc := "(Ljava/lang/Object;)Z" } : Jvm.MethodName)) ∈ lw_all := lw_g (lw_at lw_m5 160 rfl) rfl
theorem q1510 : (Jvm.Cond.castable "java/lang/StringBuilder" "java/lang/Comparable") ∈ lw_tbl := lw_at lw_m6 211 rfl
theorem q1511 : (Jvm.Cond.selects "java/lang/StringBuilder" ({ cls := "java/lang/Comparable", name := "compareTo", desc := "(Ljava/lang/Object;)I" } : Jvm.MethodName) ({ cls := "java/lang/StringBuilder", name := "compareTo", desc := "(Ljava/lang/Object;)I" } : Jvm.MethodName)) ∈ lw_all := lw_g (lw_at lw_m6 212 rfl) rfl
theorem q1512 : (Jvm.Cond.unhidden "java/lang/StringBuilder" "compareTo" "(Ljava/lang/Object;)I") ∈ lw_tbl := lw_at lw_m6 213 rfl
theorem q1513 : (Jvm.Cond.instanceMethod ({ cls := "java/lang/StringBuilder", name := "compareTo", desc := "(Ljava/lang/Object;)I" } : Jvm.MethodName)) ∈ lw_all := lw_g (lw_at lw_m6 214 rfl) rfl
theorem q1514 : (Jvm.Cond.publicMethod ({ cls := "java/lang/StringBuilder", name := "compareTo", desc := "(Ljava/lang/Object;)I" } : Jvm.MethodName)) ∈ lw_tbl := lw_at lw_m6 215 rfl
theorem q1515 : (Jvm.Cond.code ({ cls := "java/lang/StringBuilder", name := "compareTo", desc := "(Ljava/lang/Object;)I" } : Jvm.MethodName) prog_69_method_97_code (2 : Nat) (Option.some Jvm.ClassFile.FieldType.int)) ∈ lw_all := lw_g (lw_at lw_m6 216 rfl) rfl
theorem q1516 : (Jvm.Cond.classLink "java/lang/StringBuilder" (24 : Nat) "java/lang/StringBuilder") ∈ lw_all := lw_g (lw_at lw_m6 217 rfl) rfl
theorem q1517 : (Jvm.Cond.methodLink "java/lang/StringBuilder" (346 : Nat) ({ cls := "java/lang/StringBuilder", name := "compareTo", desc := "(Ljava/lang/StringBuilder;)I" } : Jvm.MethodName)) ∈ lw_all := lw_g (lw_at lw_m6 218 rfl) rfl
theorem q1518 : (Jvm.Cond.instanceMethod ({ cls := "java/lang/StringBuilder", name := "compareTo", desc := "(Ljava/lang/StringBuilder;)I" } : Jvm.MethodName)) ∈ lw_all := lw_g (lw_at lw_m6 219 rfl) rfl
theorem q1519 : (Jvm.Cond.selects "java/lang/StringBuilder" ({ cls := "java/lang/StringBuilder", name := "compareTo", desc := "(Ljava/lang/StringBuilder;)I" } : Jvm.MethodName) ({ cls := "java/lang/StringBuilder", name := "compareTo", desc := "(Ljava/lang/StringBuilder;)I" } : Jvm.MethodName)) ∈ lw_all := lw_g (lw_at lw_m6 220 rfl) rfl
theorem q1520 : (Jvm.Cond.code ({ cls := "java/lang/StringBuilder", name := "compareTo", desc := "(Ljava/lang/StringBuilder;)I" } : Jvm.MethodName) prog_69_method_5_code (2 : Nat) (Option.some Jvm.ClassFile.FieldType.int)) ∈ lw_all := lw_g (lw_at lw_m6 221 rfl) rfl
theorem q1521 : (Jvm.Cond.methodLink "java/lang/StringBuilder" (13 : Nat) ({ cls := "java/lang/AbstractStringBuilder", name := "compareTo", desc := "(Ljava/lang/AbstractStringBuilder;)I" } : Jvm.MethodName)) ∈ lw_all := lw_g (lw_at lw_m6 222 rfl) rfl
theorem q3415 : (Jvm.Cond.castable "java/lang/StringBuilder" "java/lang/Object") ∈ lw_tbl := lw_at lw_m14 196 rfl
theorem in_J10 : ∀ w ∈ wsJ100, w ∈ lw_all := lw_in wsJ100 [378, 380, 382, 384] (by decide +kernel) (by decide +kernel)

/-! java/lang/String -/
def RJ11 : String := "java/lang/String"
def TJ11 : u_T := fun k => match k with
  | 0 => ("java/lang/String", "value", "[B", true)
  | 1 => ("java/lang/String", "coder", "B", true)
  | 2 => ("java/lang/String", "hash", "I", false)
  | _ => ("java/lang/String", "hashIsZero", "Z", false)
def tyJ11 : Nat → FieldType := fun k => match k with
  | 0 => .array .byte
  | 1 => .byte
  | 2 => .int
  | _ => .boolean
abbrev wsJ110 : List Cond := u_ws RJ11 TJ11 4
theorem nmJ11 : ∀ a, a < 4 → ∀ b, b < 4 → a ≠ b → (TJ11 a).2.1 ≠ (TJ11 b).2.1 := by decide +kernel
theorem tyJ11_ok : ∀ k, k < 4 → parseFieldDescriptor (TJ11 k).2.2.1 = some (tyJ11 k) := by decide +kernel
abbrev cJ11_checkBoundsOffCount : ByteArray := prog_68_method_157_code
def yJ11_checkBoundsOffCount : MethodName := ⟨RJ11, "checkBoundsOffCount", "(III)I"⟩
def dkwJ11_checkBoundsOffCount_0 : List UInt8 := [26, 27, 28, 178, 4, 29, 184, 4, 41, 172]
abbrev dktJ11_checkBoundsOffCount_0 : List UInt8 := dkwJ11_checkBoundsOffCount_0 ++ []
theorem dksJ11_checkBoundsOffCount_0 : cJ11_checkBoundsOffCount.data.toList.drop 0 = dktJ11_checkBoundsOffCount_0 := by decide +kernel
theorem dJ11_checkBoundsOffCount_0 : decode cJ11_checkBoundsOffCount 0 = .ok (.iload_n 0, 1) := dk_26 (dk_at dksJ11_checkBoundsOffCount_0 0 rfl rfl)
theorem dJ11_checkBoundsOffCount_1 : decode cJ11_checkBoundsOffCount 1 = .ok (.iload_n 1, 1) := dk_27 (dk_at dksJ11_checkBoundsOffCount_0 1 rfl rfl)
theorem dJ11_checkBoundsOffCount_2 : decode cJ11_checkBoundsOffCount 2 = .ok (.iload_n 2, 1) := dk_28 (dk_at dksJ11_checkBoundsOffCount_0 2 rfl rfl)
theorem dJ11_checkBoundsOffCount_3 : decode cJ11_checkBoundsOffCount 3 = .ok (.getstatic 1053, 3) := dk_178 4 29 (dk_at dksJ11_checkBoundsOffCount_0 3 rfl rfl)
theorem dJ11_checkBoundsOffCount_6 : decode cJ11_checkBoundsOffCount 6 = .ok (.invokestatic 1065, 3) := dk_184 4 41 (dk_at dksJ11_checkBoundsOffCount_0 6 rfl rfl)
theorem dJ11_checkBoundsOffCount_9 : decode cJ11_checkBoundsOffCount 9 = .ok (.ireturn, 1) := dk_172 (dk_at dksJ11_checkBoundsOffCount_0 9 rfl rfl)
abbrev cJ11_checkIndex : ByteArray := prog_68_method_155_code
def yJ11_checkIndex : MethodName := ⟨RJ11, "checkIndex", "(II)V"⟩
def dkwJ11_checkIndex_0 : List UInt8 := [26, 27, 178, 4, 29, 184, 4, 35, 87, 177]
abbrev dktJ11_checkIndex_0 : List UInt8 := dkwJ11_checkIndex_0 ++ []
theorem dksJ11_checkIndex_0 : cJ11_checkIndex.data.toList.drop 0 = dktJ11_checkIndex_0 := by decide +kernel
theorem dJ11_checkIndex_0 : decode cJ11_checkIndex 0 = .ok (.iload_n 0, 1) := dk_26 (dk_at dksJ11_checkIndex_0 0 rfl rfl)
theorem dJ11_checkIndex_1 : decode cJ11_checkIndex 1 = .ok (.iload_n 1, 1) := dk_27 (dk_at dksJ11_checkIndex_0 1 rfl rfl)
theorem dJ11_checkIndex_2 : decode cJ11_checkIndex 2 = .ok (.getstatic 1053, 3) := dk_178 4 29 (dk_at dksJ11_checkIndex_0 2 rfl rfl)
theorem dJ11_checkIndex_5 : decode cJ11_checkIndex 5 = .ok (.invokestatic 1059, 3) := dk_184 4 35 (dk_at dksJ11_checkIndex_0 5 rfl rfl)
theorem dJ11_checkIndex_8 : decode cJ11_checkIndex 8 = .ok (.pop, 1) := dk_87 (dk_at dksJ11_checkIndex_0 8 rfl rfl)
theorem dJ11_checkIndex_9 : decode cJ11_checkIndex 9 = .ok (.return_, 1) := dk_177 (dk_at dksJ11_checkIndex_0 9 rfl rfl)
abbrev cJ11_init : ByteArray := prog_68_method_53_code
def yJ11_init : MethodName := ⟨RJ11, "<init>", "(Ljava/lang/StringBuilder;)V"⟩
def dkwJ11_init_0 : List UInt8 := [42, 43, 1, 183, 1, 233, 177]
abbrev dktJ11_init_0 : List UInt8 := dkwJ11_init_0 ++ []
theorem dksJ11_init_0 : cJ11_init.data.toList.drop 0 = dktJ11_init_0 := by decide +kernel
theorem dJ11_init_0 : decode cJ11_init 0 = .ok (.aload_n 0, 1) := dk_42 (dk_at dksJ11_init_0 0 rfl rfl)
theorem dJ11_init_1 : decode cJ11_init 1 = .ok (.aload_n 1, 1) := dk_43 (dk_at dksJ11_init_0 1 rfl rfl)
theorem dJ11_init_2 : decode cJ11_init 2 = .ok (.aconst_null, 1) := dk_1 (dk_at dksJ11_init_0 2 rfl rfl)
theorem dJ11_init_3 : decode cJ11_init 3 = .ok (.invokespecial 489, 3) := dk_183 1 233 (dk_at dksJ11_init_0 3 rfl rfl)
theorem dJ11_init_6 : decode cJ11_init 6 = .ok (.return_, 1) := dk_177 (dk_at dksJ11_init_0 6 rfl rfl)
abbrev cJ11_init_2 : ByteArray := prog_68_method_150_code
def yJ11_init_2 : MethodName := ⟨RJ11, "<init>", "(Ljava/lang/AbstractStringBuilder;Ljava/lang/Void;)V"⟩
def dkwJ11_init_2_4 : List UInt8 := [181, 0, 9, 177]
abbrev dktJ11_init_2_4 : List UInt8 := dkwJ11_init_2_4 ++ []
def dkwJ11_init_2_3 : List UInt8 := [184, 0, 47, 181, 0, 15, 177, 42, 4, 181, 0, 15, 42, 45, 3, 21, 4, 4, 120, 184, 0, 54]
abbrev dktJ11_init_2_3 : List UInt8 := dkwJ11_init_2_3 ++ dktJ11_init_2_4
def dkwJ11_init_2_2 : List UInt8 := [180, 4, 24, 153, 0, 28, 42, 45, 3, 21, 4, 184, 4, 27, 181, 0, 9, 42, 42, 180, 0, 9, 21, 4]
abbrev dktJ11_init_2_2 : List UInt8 := dkwJ11_init_2_2 ++ dktJ11_init_2_3
def dkwJ11_init_2_1 : List UInt8 := [181, 0, 15, 42, 45, 3, 21, 4, 184, 0, 54, 181, 0, 9, 167, 0, 59, 178, 0, 38, 153, 0, 35, 43]
abbrev dktJ11_init_2_1 : List UInt8 := dkwJ11_init_2_1 ++ dktJ11_init_2_2
def dkwJ11_init_2_0 : List UInt8 := [42, 183, 0, 1, 43, 182, 2, 40, 78, 43, 182, 2, 37, 54, 4, 43, 182, 4, 23, 153, 0, 22, 42, 3]
abbrev dktJ11_init_2_0 : List UInt8 := dkwJ11_init_2_0 ++ dktJ11_init_2_1
theorem dksJ11_init_2_0 : cJ11_init_2.data.toList.drop 0 = dktJ11_init_2_0 := by decide +kernel
theorem dksJ11_init_2_1 : cJ11_init_2.data.toList.drop 24 = dktJ11_init_2_1 := dk_seg dksJ11_init_2_0 24 rfl rfl
theorem dksJ11_init_2_2 : cJ11_init_2.data.toList.drop 48 = dktJ11_init_2_2 := dk_seg dksJ11_init_2_1 24 rfl rfl
theorem dksJ11_init_2_3 : cJ11_init_2.data.toList.drop 72 = dktJ11_init_2_3 := dk_seg dksJ11_init_2_2 24 rfl rfl
theorem dksJ11_init_2_4 : cJ11_init_2.data.toList.drop 94 = dktJ11_init_2_4 := dk_seg dksJ11_init_2_3 22 rfl rfl
theorem dJ11_init_2_0 : decode cJ11_init_2 0 = .ok (.aload_n 0, 1) := dk_42 (dk_at dksJ11_init_2_0 0 rfl rfl)
theorem dJ11_init_2_1 : decode cJ11_init_2 1 = .ok (.invokespecial 1, 3) := dk_183 0 1 (dk_at dksJ11_init_2_0 1 rfl rfl)
theorem dJ11_init_2_4 : decode cJ11_init_2 4 = .ok (.aload_n 1, 1) := dk_43 (dk_at dksJ11_init_2_0 4 rfl rfl)
theorem dJ11_init_2_5 : decode cJ11_init_2 5 = .ok (.invokevirtual 552, 3) := dk_182 2 40 (dk_at dksJ11_init_2_0 5 rfl rfl)
theorem dJ11_init_2_8 : decode cJ11_init_2 8 = .ok (.astore_n 3, 1) := dk_78 (dk_at dksJ11_init_2_0 8 rfl rfl)
theorem dJ11_init_2_9 : decode cJ11_init_2 9 = .ok (.aload_n 1, 1) := dk_43 (dk_at dksJ11_init_2_0 9 rfl rfl)
theorem dJ11_init_2_10 : decode cJ11_init_2 10 = .ok (.invokevirtual 549, 3) := dk_182 2 37 (dk_at dksJ11_init_2_0 10 rfl rfl)
theorem dJ11_init_2_13 : decode cJ11_init_2 13 = .ok (.istore 4, 2) := dk_54 4 (dk_at dksJ11_init_2_0 13 rfl rfl)
theorem dJ11_init_2_15 : decode cJ11_init_2 15 = .ok (.aload_n 1, 1) := dk_43 (dk_at dksJ11_init_2_0 15 rfl rfl)
theorem dJ11_init_2_16 : decode cJ11_init_2 16 = .ok (.invokevirtual 1047, 3) := dk_182 4 23 (dk_at dksJ11_init_2_0 16 rfl rfl)
theorem dJ11_init_2_19 : decode cJ11_init_2 19 = .ok (.ifCond .eq 22, 3) := dk_153 0 22 (dk_at dksJ11_init_2_0 19 rfl rfl)
theorem dJ11_init_2_22 : decode cJ11_init_2 22 = .ok (.aload_n 0, 1) := dk_42 (dk_at dksJ11_init_2_0 22 rfl rfl)
theorem dJ11_init_2_23 : decode cJ11_init_2 23 = .ok (.iconst 0, 1) := dk_3 (dk_at dksJ11_init_2_0 23 rfl rfl)
theorem dJ11_init_2_24 : decode cJ11_init_2 24 = .ok (.putfield 15, 3) := dk_181 0 15 (dk_at dksJ11_init_2_1 0 rfl rfl)
theorem dJ11_init_2_27 : decode cJ11_init_2 27 = .ok (.aload_n 0, 1) := dk_42 (dk_at dksJ11_init_2_1 3 rfl rfl)
theorem dJ11_init_2_28 : decode cJ11_init_2 28 = .ok (.aload_n 3, 1) := dk_45 (dk_at dksJ11_init_2_1 4 rfl rfl)
theorem dJ11_init_2_29 : decode cJ11_init_2 29 = .ok (.iconst 0, 1) := dk_3 (dk_at dksJ11_init_2_1 5 rfl rfl)
theorem dJ11_init_2_30 : decode cJ11_init_2 30 = .ok (.iload 4, 2) := dk_21 4 (dk_at dksJ11_init_2_1 6 rfl rfl)
theorem dJ11_init_2_32 : decode cJ11_init_2 32 = .ok (.invokestatic 54, 3) := dk_184 0 54 (dk_at dksJ11_init_2_1 8 rfl rfl)
theorem dJ11_init_2_35 : decode cJ11_init_2 35 = .ok (.putfield 9, 3) := dk_181 0 9 (dk_at dksJ11_init_2_1 11 rfl rfl)
theorem dJ11_init_2_38 : decode cJ11_init_2 38 = .ok (.goto 59, 3) := dk_167 0 59 (dk_at dksJ11_init_2_1 14 rfl rfl)
theorem dJ11_init_2_41 : decode cJ11_init_2 41 = .ok (.getstatic 38, 3) := dk_178 0 38 (dk_at dksJ11_init_2_1 17 rfl rfl)
theorem dJ11_init_2_44 : decode cJ11_init_2 44 = .ok (.ifCond .eq 35, 3) := dk_153 0 35 (dk_at dksJ11_init_2_1 20 rfl rfl)
theorem dJ11_init_2_47 : decode cJ11_init_2 47 = .ok (.aload_n 1, 1) := dk_43 (dk_at dksJ11_init_2_1 23 rfl rfl)
theorem dJ11_init_2_48 : decode cJ11_init_2 48 = .ok (.getfield 1048, 3) := dk_180 4 24 (dk_at dksJ11_init_2_2 0 rfl rfl)
theorem dJ11_init_2_51 : decode cJ11_init_2 51 = .ok (.ifCond .eq 28, 3) := dk_153 0 28 (dk_at dksJ11_init_2_2 3 rfl rfl)
theorem dJ11_init_2_54 : decode cJ11_init_2 54 = .ok (.aload_n 0, 1) := dk_42 (dk_at dksJ11_init_2_2 6 rfl rfl)
theorem dJ11_init_2_55 : decode cJ11_init_2 55 = .ok (.aload_n 3, 1) := dk_45 (dk_at dksJ11_init_2_2 7 rfl rfl)
theorem dJ11_init_2_56 : decode cJ11_init_2 56 = .ok (.iconst 0, 1) := dk_3 (dk_at dksJ11_init_2_2 8 rfl rfl)
theorem dJ11_init_2_57 : decode cJ11_init_2 57 = .ok (.iload 4, 2) := dk_21 4 (dk_at dksJ11_init_2_2 9 rfl rfl)
theorem dJ11_init_2_59 : decode cJ11_init_2 59 = .ok (.invokestatic 1051, 3) := dk_184 4 27 (dk_at dksJ11_init_2_2 11 rfl rfl)
theorem dJ11_init_2_62 : decode cJ11_init_2 62 = .ok (.putfield 9, 3) := dk_181 0 9 (dk_at dksJ11_init_2_2 14 rfl rfl)
theorem dJ11_init_2_65 : decode cJ11_init_2 65 = .ok (.aload_n 0, 1) := dk_42 (dk_at dksJ11_init_2_2 17 rfl rfl)
theorem dJ11_init_2_66 : decode cJ11_init_2 66 = .ok (.aload_n 0, 1) := dk_42 (dk_at dksJ11_init_2_2 18 rfl rfl)
theorem dJ11_init_2_67 : decode cJ11_init_2 67 = .ok (.getfield 9, 3) := dk_180 0 9 (dk_at dksJ11_init_2_2 19 rfl rfl)
theorem dJ11_init_2_70 : decode cJ11_init_2 70 = .ok (.iload 4, 2) := dk_21 4 (dk_at dksJ11_init_2_2 22 rfl rfl)
theorem dJ11_init_2_72 : decode cJ11_init_2 72 = .ok (.invokestatic 47, 3) := dk_184 0 47 (dk_at dksJ11_init_2_3 0 rfl rfl)
theorem dJ11_init_2_75 : decode cJ11_init_2 75 = .ok (.putfield 15, 3) := dk_181 0 15 (dk_at dksJ11_init_2_3 3 rfl rfl)
theorem dJ11_init_2_78 : decode cJ11_init_2 78 = .ok (.return_, 1) := dk_177 (dk_at dksJ11_init_2_3 6 rfl rfl)
theorem dJ11_init_2_79 : decode cJ11_init_2 79 = .ok (.aload_n 0, 1) := dk_42 (dk_at dksJ11_init_2_3 7 rfl rfl)
theorem dJ11_init_2_80 : decode cJ11_init_2 80 = .ok (.iconst 1, 1) := dk_4 (dk_at dksJ11_init_2_3 8 rfl rfl)
theorem dJ11_init_2_81 : decode cJ11_init_2 81 = .ok (.putfield 15, 3) := dk_181 0 15 (dk_at dksJ11_init_2_3 9 rfl rfl)
theorem dJ11_init_2_84 : decode cJ11_init_2 84 = .ok (.aload_n 0, 1) := dk_42 (dk_at dksJ11_init_2_3 12 rfl rfl)
theorem dJ11_init_2_85 : decode cJ11_init_2 85 = .ok (.aload_n 3, 1) := dk_45 (dk_at dksJ11_init_2_3 13 rfl rfl)
theorem dJ11_init_2_86 : decode cJ11_init_2 86 = .ok (.iconst 0, 1) := dk_3 (dk_at dksJ11_init_2_3 14 rfl rfl)
theorem dJ11_init_2_87 : decode cJ11_init_2 87 = .ok (.iload 4, 2) := dk_21 4 (dk_at dksJ11_init_2_3 15 rfl rfl)
theorem dJ11_init_2_89 : decode cJ11_init_2 89 = .ok (.iconst 1, 1) := dk_4 (dk_at dksJ11_init_2_3 17 rfl rfl)
theorem dJ11_init_2_90 : decode cJ11_init_2 90 = .ok (.ishl, 1) := dk_120 (dk_at dksJ11_init_2_3 18 rfl rfl)
theorem dJ11_init_2_91 : decode cJ11_init_2 91 = .ok (.invokestatic 54, 3) := dk_184 0 54 (dk_at dksJ11_init_2_3 19 rfl rfl)
theorem dJ11_init_2_94 : decode cJ11_init_2 94 = .ok (.putfield 9, 3) := dk_181 0 9 (dk_at dksJ11_init_2_4 0 rfl rfl)
theorem dJ11_init_2_97 : decode cJ11_init_2 97 = .ok (.return_, 1) := dk_177 (dk_at dksJ11_init_2_4 3 rfl rfl)
abbrev cJ11_checkBoundsBeginEnd : ByteArray := prog_68_method_158_code
def yJ11_checkBoundsBeginEnd : MethodName := ⟨RJ11, "checkBoundsBeginEnd", "(III)V"⟩
def dkwJ11_checkBoundsBeginEnd_0 : List UInt8 := [26, 27, 28, 178, 4, 29, 184, 4, 38, 87, 177]
abbrev dktJ11_checkBoundsBeginEnd_0 : List UInt8 := dkwJ11_checkBoundsBeginEnd_0 ++ []
theorem dksJ11_checkBoundsBeginEnd_0 : cJ11_checkBoundsBeginEnd.data.toList.drop 0 = dktJ11_checkBoundsBeginEnd_0 := by decide +kernel
theorem dJ11_checkBoundsBeginEnd_0 : decode cJ11_checkBoundsBeginEnd 0 = .ok (.iload_n 0, 1) := dk_26 (dk_at dksJ11_checkBoundsBeginEnd_0 0 rfl rfl)
theorem dJ11_checkBoundsBeginEnd_1 : decode cJ11_checkBoundsBeginEnd 1 = .ok (.iload_n 1, 1) := dk_27 (dk_at dksJ11_checkBoundsBeginEnd_0 1 rfl rfl)
theorem dJ11_checkBoundsBeginEnd_2 : decode cJ11_checkBoundsBeginEnd 2 = .ok (.iload_n 2, 1) := dk_28 (dk_at dksJ11_checkBoundsBeginEnd_0 2 rfl rfl)
theorem dJ11_checkBoundsBeginEnd_3 : decode cJ11_checkBoundsBeginEnd 3 = .ok (.getstatic 1053, 3) := dk_178 4 29 (dk_at dksJ11_checkBoundsBeginEnd_0 3 rfl rfl)
theorem dJ11_checkBoundsBeginEnd_6 : decode cJ11_checkBoundsBeginEnd 6 = .ok (.invokestatic 1062, 3) := dk_184 4 38 (dk_at dksJ11_checkBoundsBeginEnd_0 6 rfl rfl)
theorem dJ11_checkBoundsBeginEnd_9 : decode cJ11_checkBoundsBeginEnd 9 = .ok (.pop, 1) := dk_87 (dk_at dksJ11_checkBoundsBeginEnd_0 9 rfl rfl)
theorem dJ11_checkBoundsBeginEnd_10 : decode cJ11_checkBoundsBeginEnd 10 = .ok (.return_, 1) := dk_177 (dk_at dksJ11_checkBoundsBeginEnd_0 10 rfl rfl)
abbrev cJ11_length : ByteArray := prog_68_method_54_code
def yJ11_length : MethodName := ⟨RJ11, "length", "()I"⟩
def dkwJ11_length_0 : List UInt8 := [42, 180, 0, 9, 190, 42, 182, 1, 79, 122, 172]
abbrev dktJ11_length_0 : List UInt8 := dkwJ11_length_0 ++ []
theorem dksJ11_length_0 : cJ11_length.data.toList.drop 0 = dktJ11_length_0 := by decide +kernel
theorem dJ11_length_0 : decode cJ11_length 0 = .ok (.aload_n 0, 1) := dk_42 (dk_at dksJ11_length_0 0 rfl rfl)
theorem dJ11_length_1 : decode cJ11_length 1 = .ok (.getfield 9, 3) := dk_180 0 9 (dk_at dksJ11_length_0 1 rfl rfl)
theorem dJ11_length_4 : decode cJ11_length 4 = .ok (.arraylength, 1) := dk_190 (dk_at dksJ11_length_0 4 rfl rfl)
theorem dJ11_length_5 : decode cJ11_length 5 = .ok (.aload_n 0, 1) := dk_42 (dk_at dksJ11_length_0 5 rfl rfl)
theorem dJ11_length_6 : decode cJ11_length 6 = .ok (.invokevirtual 335, 3) := dk_182 1 79 (dk_at dksJ11_length_0 6 rfl rfl)
theorem dJ11_length_9 : decode cJ11_length 9 = .ok (.ishr, 1) := dk_122 (dk_at dksJ11_length_0 9 rfl rfl)
theorem dJ11_length_10 : decode cJ11_length 10 = .ok (.ireturn, 1) := dk_172 (dk_at dksJ11_length_0 10 rfl rfl)
abbrev cJ11_coder : ByteArray := prog_68_method_152_code
def yJ11_coder : MethodName := ⟨RJ11, "coder", "()B"⟩
def dkwJ11_coder_0 : List UInt8 := [178, 0, 38, 153, 0, 10, 42, 180, 0, 15, 167, 0, 4, 4, 172]
abbrev dktJ11_coder_0 : List UInt8 := dkwJ11_coder_0 ++ []
theorem dksJ11_coder_0 : cJ11_coder.data.toList.drop 0 = dktJ11_coder_0 := by decide +kernel
theorem dJ11_coder_0 : decode cJ11_coder 0 = .ok (.getstatic 38, 3) := dk_178 0 38 (dk_at dksJ11_coder_0 0 rfl rfl)
theorem dJ11_coder_3 : decode cJ11_coder 3 = .ok (.ifCond .eq 10, 3) := dk_153 0 10 (dk_at dksJ11_coder_0 3 rfl rfl)
theorem dJ11_coder_6 : decode cJ11_coder 6 = .ok (.aload_n 0, 1) := dk_42 (dk_at dksJ11_coder_0 6 rfl rfl)
theorem dJ11_coder_7 : decode cJ11_coder 7 = .ok (.getfield 15, 3) := dk_180 0 15 (dk_at dksJ11_coder_0 7 rfl rfl)
theorem dJ11_coder_10 : decode cJ11_coder 10 = .ok (.goto 4, 3) := dk_167 0 4 (dk_at dksJ11_coder_0 10 rfl rfl)
theorem dJ11_coder_13 : decode cJ11_coder 13 = .ok (.iconst 1, 1) := dk_4 (dk_at dksJ11_coder_0 13 rfl rfl)
theorem dJ11_coder_14 : decode cJ11_coder 14 = .ok (.ireturn, 1) := dk_172 (dk_at dksJ11_coder_0 14 rfl rfl)
abbrev cJ11_getBytes : ByteArray := prog_68_method_147_code
def yJ11_getBytes : MethodName := ⟨RJ11, "getBytes", "([BIB)V"⟩
def dkwJ11_getBytes_1 : List UInt8 := [184, 0, 212, 167, 0, 18, 42, 180, 0, 9, 3, 43, 28, 42, 180, 0, 9, 190, 184, 0, 106, 177]
abbrev dktJ11_getBytes_1 : List UInt8 := dkwJ11_getBytes_1 ++ []
def dkwJ11_getBytes_0 : List UInt8 := [42, 182, 1, 79, 29, 160, 0, 23, 42, 180, 0, 9, 3, 43, 28, 29, 120, 42, 180, 0, 9, 190]
abbrev dktJ11_getBytes_0 : List UInt8 := dkwJ11_getBytes_0 ++ dktJ11_getBytes_1
theorem dksJ11_getBytes_0 : cJ11_getBytes.data.toList.drop 0 = dktJ11_getBytes_0 := by decide +kernel
theorem dksJ11_getBytes_1 : cJ11_getBytes.data.toList.drop 22 = dktJ11_getBytes_1 := dk_seg dksJ11_getBytes_0 22 rfl rfl
theorem dJ11_getBytes_0 : decode cJ11_getBytes 0 = .ok (.aload_n 0, 1) := dk_42 (dk_at dksJ11_getBytes_0 0 rfl rfl)
theorem dJ11_getBytes_1 : decode cJ11_getBytes 1 = .ok (.invokevirtual 335, 3) := dk_182 1 79 (dk_at dksJ11_getBytes_0 1 rfl rfl)
theorem dJ11_getBytes_4 : decode cJ11_getBytes 4 = .ok (.iload_n 3, 1) := dk_29 (dk_at dksJ11_getBytes_0 4 rfl rfl)
theorem dJ11_getBytes_5 : decode cJ11_getBytes 5 = .ok (.if_icmp .ne 23, 3) := dk_160 0 23 (dk_at dksJ11_getBytes_0 5 rfl rfl)
theorem dJ11_getBytes_8 : decode cJ11_getBytes 8 = .ok (.aload_n 0, 1) := dk_42 (dk_at dksJ11_getBytes_0 8 rfl rfl)
theorem dJ11_getBytes_9 : decode cJ11_getBytes 9 = .ok (.getfield 9, 3) := dk_180 0 9 (dk_at dksJ11_getBytes_0 9 rfl rfl)
theorem dJ11_getBytes_12 : decode cJ11_getBytes 12 = .ok (.iconst 0, 1) := dk_3 (dk_at dksJ11_getBytes_0 12 rfl rfl)
theorem dJ11_getBytes_13 : decode cJ11_getBytes 13 = .ok (.aload_n 1, 1) := dk_43 (dk_at dksJ11_getBytes_0 13 rfl rfl)
theorem dJ11_getBytes_14 : decode cJ11_getBytes 14 = .ok (.iload_n 2, 1) := dk_28 (dk_at dksJ11_getBytes_0 14 rfl rfl)
theorem dJ11_getBytes_15 : decode cJ11_getBytes 15 = .ok (.iload_n 3, 1) := dk_29 (dk_at dksJ11_getBytes_0 15 rfl rfl)
theorem dJ11_getBytes_16 : decode cJ11_getBytes 16 = .ok (.ishl, 1) := dk_120 (dk_at dksJ11_getBytes_0 16 rfl rfl)
theorem dJ11_getBytes_17 : decode cJ11_getBytes 17 = .ok (.aload_n 0, 1) := dk_42 (dk_at dksJ11_getBytes_0 17 rfl rfl)
theorem dJ11_getBytes_18 : decode cJ11_getBytes 18 = .ok (.getfield 9, 3) := dk_180 0 9 (dk_at dksJ11_getBytes_0 18 rfl rfl)
theorem dJ11_getBytes_21 : decode cJ11_getBytes 21 = .ok (.arraylength, 1) := dk_190 (dk_at dksJ11_getBytes_0 21 rfl rfl)
theorem dJ11_getBytes_22 : decode cJ11_getBytes 22 = .ok (.invokestatic 212, 3) := dk_184 0 212 (dk_at dksJ11_getBytes_1 0 rfl rfl)
theorem dJ11_getBytes_25 : decode cJ11_getBytes 25 = .ok (.goto 18, 3) := dk_167 0 18 (dk_at dksJ11_getBytes_1 3 rfl rfl)
theorem dJ11_getBytes_28 : decode cJ11_getBytes 28 = .ok (.aload_n 0, 1) := dk_42 (dk_at dksJ11_getBytes_1 6 rfl rfl)
theorem dJ11_getBytes_29 : decode cJ11_getBytes 29 = .ok (.getfield 9, 3) := dk_180 0 9 (dk_at dksJ11_getBytes_1 7 rfl rfl)
theorem dJ11_getBytes_32 : decode cJ11_getBytes 32 = .ok (.iconst 0, 1) := dk_3 (dk_at dksJ11_getBytes_1 10 rfl rfl)
theorem dJ11_getBytes_33 : decode cJ11_getBytes 33 = .ok (.aload_n 1, 1) := dk_43 (dk_at dksJ11_getBytes_1 11 rfl rfl)
theorem dJ11_getBytes_34 : decode cJ11_getBytes 34 = .ok (.iload_n 2, 1) := dk_28 (dk_at dksJ11_getBytes_1 12 rfl rfl)
theorem dJ11_getBytes_35 : decode cJ11_getBytes 35 = .ok (.aload_n 0, 1) := dk_42 (dk_at dksJ11_getBytes_1 13 rfl rfl)
theorem dJ11_getBytes_36 : decode cJ11_getBytes 36 = .ok (.getfield 9, 3) := dk_180 0 9 (dk_at dksJ11_getBytes_1 14 rfl rfl)
theorem dJ11_getBytes_39 : decode cJ11_getBytes 39 = .ok (.arraylength, 1) := dk_190 (dk_at dksJ11_getBytes_1 17 rfl rfl)
theorem dJ11_getBytes_40 : decode cJ11_getBytes 40 = .ok (.invokestatic 106, 3) := dk_184 0 106 (dk_at dksJ11_getBytes_1 18 rfl rfl)
theorem dJ11_getBytes_43 : decode cJ11_getBytes 43 = .ok (.return_, 1) := dk_177 (dk_at dksJ11_getBytes_1 21 rfl rfl)
abbrev cJ11_equals : ByteArray := prog_68_method_66_code
def yJ11_equals : MethodName := ⟨RJ11, "equals", "(Ljava/lang/Object;)Z"⟩
def dkwJ11_equals_2 : List UInt8 := [184, 2, 29, 153, 0, 7, 4, 167, 0, 4, 3, 172]
abbrev dktJ11_equals_2 : List UInt8 := dkwJ11_equals_2 ++ []
def dkwJ11_equals_1 : List UInt8 := [153, 0, 14, 42, 180, 0, 15, 44, 180, 0, 15, 160, 0, 21, 42, 180, 0, 9, 44, 180, 0, 9]
abbrev dktJ11_equals_1 : List UInt8 := dkwJ11_equals_1 ++ dktJ11_equals_2
def dkwJ11_equals_0 : List UInt8 := [42, 43, 166, 0, 5, 4, 172, 43, 193, 0, 10, 153, 0, 43, 43, 192, 0, 10, 77, 178, 0, 38]
abbrev dktJ11_equals_0 : List UInt8 := dkwJ11_equals_0 ++ dktJ11_equals_1
theorem dksJ11_equals_0 : cJ11_equals.data.toList.drop 0 = dktJ11_equals_0 := by decide +kernel
theorem dksJ11_equals_1 : cJ11_equals.data.toList.drop 22 = dktJ11_equals_1 := dk_seg dksJ11_equals_0 22 rfl rfl
theorem dksJ11_equals_2 : cJ11_equals.data.toList.drop 44 = dktJ11_equals_2 := dk_seg dksJ11_equals_1 22 rfl rfl
theorem dJ11_equals_0 : decode cJ11_equals 0 = .ok (.aload_n 0, 1) := dk_42 (dk_at dksJ11_equals_0 0 rfl rfl)
theorem dJ11_equals_1 : decode cJ11_equals 1 = .ok (.aload_n 1, 1) := dk_43 (dk_at dksJ11_equals_0 1 rfl rfl)
theorem dJ11_equals_2 : decode cJ11_equals 2 = .ok (.if_acmp .ne 5, 3) := dk_166 0 5 (dk_at dksJ11_equals_0 2 rfl rfl)
theorem dJ11_equals_5 : decode cJ11_equals 5 = .ok (.iconst 1, 1) := dk_4 (dk_at dksJ11_equals_0 5 rfl rfl)
theorem dJ11_equals_6 : decode cJ11_equals 6 = .ok (.ireturn, 1) := dk_172 (dk_at dksJ11_equals_0 6 rfl rfl)
theorem dJ11_equals_7 : decode cJ11_equals 7 = .ok (.aload_n 1, 1) := dk_43 (dk_at dksJ11_equals_0 7 rfl rfl)
theorem dJ11_equals_8 : decode cJ11_equals 8 = .ok (.instanceof 10, 3) := dk_193 0 10 (dk_at dksJ11_equals_0 8 rfl rfl)
theorem dJ11_equals_11 : decode cJ11_equals 11 = .ok (.ifCond .eq 43, 3) := dk_153 0 43 (dk_at dksJ11_equals_0 11 rfl rfl)
theorem dJ11_equals_14 : decode cJ11_equals 14 = .ok (.aload_n 1, 1) := dk_43 (dk_at dksJ11_equals_0 14 rfl rfl)
theorem dJ11_equals_15 : decode cJ11_equals 15 = .ok (.checkcast 10, 3) := dk_192 0 10 (dk_at dksJ11_equals_0 15 rfl rfl)
theorem dJ11_equals_18 : decode cJ11_equals 18 = .ok (.astore_n 2, 1) := dk_77 (dk_at dksJ11_equals_0 18 rfl rfl)
theorem dJ11_equals_19 : decode cJ11_equals 19 = .ok (.getstatic 38, 3) := dk_178 0 38 (dk_at dksJ11_equals_0 19 rfl rfl)
theorem dJ11_equals_22 : decode cJ11_equals 22 = .ok (.ifCond .eq 14, 3) := dk_153 0 14 (dk_at dksJ11_equals_1 0 rfl rfl)
theorem dJ11_equals_25 : decode cJ11_equals 25 = .ok (.aload_n 0, 1) := dk_42 (dk_at dksJ11_equals_1 3 rfl rfl)
theorem dJ11_equals_26 : decode cJ11_equals 26 = .ok (.getfield 15, 3) := dk_180 0 15 (dk_at dksJ11_equals_1 4 rfl rfl)
theorem dJ11_equals_29 : decode cJ11_equals 29 = .ok (.aload_n 2, 1) := dk_44 (dk_at dksJ11_equals_1 7 rfl rfl)
theorem dJ11_equals_30 : decode cJ11_equals 30 = .ok (.getfield 15, 3) := dk_180 0 15 (dk_at dksJ11_equals_1 8 rfl rfl)
theorem dJ11_equals_33 : decode cJ11_equals 33 = .ok (.if_icmp .ne 21, 3) := dk_160 0 21 (dk_at dksJ11_equals_1 11 rfl rfl)
theorem dJ11_equals_36 : decode cJ11_equals 36 = .ok (.aload_n 0, 1) := dk_42 (dk_at dksJ11_equals_1 14 rfl rfl)
theorem dJ11_equals_37 : decode cJ11_equals 37 = .ok (.getfield 9, 3) := dk_180 0 9 (dk_at dksJ11_equals_1 15 rfl rfl)
theorem dJ11_equals_40 : decode cJ11_equals 40 = .ok (.aload_n 2, 1) := dk_44 (dk_at dksJ11_equals_1 18 rfl rfl)
theorem dJ11_equals_41 : decode cJ11_equals 41 = .ok (.getfield 9, 3) := dk_180 0 9 (dk_at dksJ11_equals_1 19 rfl rfl)
theorem dJ11_equals_44 : decode cJ11_equals 44 = .ok (.invokestatic 541, 3) := dk_184 2 29 (dk_at dksJ11_equals_2 0 rfl rfl)
theorem dJ11_equals_47 : decode cJ11_equals 47 = .ok (.ifCond .eq 7, 3) := dk_153 0 7 (dk_at dksJ11_equals_2 3 rfl rfl)
theorem dJ11_equals_50 : decode cJ11_equals 50 = .ok (.iconst 1, 1) := dk_4 (dk_at dksJ11_equals_2 6 rfl rfl)
theorem dJ11_equals_51 : decode cJ11_equals 51 = .ok (.goto 4, 3) := dk_167 0 4 (dk_at dksJ11_equals_2 7 rfl rfl)
theorem dJ11_equals_54 : decode cJ11_equals 54 = .ok (.iconst 0, 1) := dk_3 (dk_at dksJ11_equals_2 10 rfl rfl)
theorem dJ11_equals_55 : decode cJ11_equals 55 = .ok (.ireturn, 1) := dk_172 (dk_at dksJ11_equals_2 11 rfl rfl)
abbrev cJ11_indexOf : ByteArray := prog_68_method_79_code
def yJ11_indexOf : MethodName := ⟨RJ11, "indexOf", "(I)I"⟩
def dkwJ11_indexOf_0 : List UInt8 := [42, 27, 3, 182, 2, 121, 172]
abbrev dktJ11_indexOf_0 : List UInt8 := dkwJ11_indexOf_0 ++ []
theorem dksJ11_indexOf_0 : cJ11_indexOf.data.toList.drop 0 = dktJ11_indexOf_0 := by decide +kernel
theorem dJ11_indexOf_0 : decode cJ11_indexOf 0 = .ok (.aload_n 0, 1) := dk_42 (dk_at dksJ11_indexOf_0 0 rfl rfl)
theorem dJ11_indexOf_1 : decode cJ11_indexOf 1 = .ok (.iload_n 1, 1) := dk_27 (dk_at dksJ11_indexOf_0 1 rfl rfl)
theorem dJ11_indexOf_2 : decode cJ11_indexOf 2 = .ok (.iconst 0, 1) := dk_3 (dk_at dksJ11_indexOf_0 2 rfl rfl)
theorem dJ11_indexOf_3 : decode cJ11_indexOf 3 = .ok (.invokevirtual 633, 3) := dk_182 2 121 (dk_at dksJ11_indexOf_0 3 rfl rfl)
theorem dJ11_indexOf_6 : decode cJ11_indexOf 6 = .ok (.ireturn, 1) := dk_172 (dk_at dksJ11_indexOf_0 6 rfl rfl)
abbrev cJ11_indexOf_2 : ByteArray := prog_68_method_80_code
def yJ11_indexOf_2 : MethodName := ⟨RJ11, "indexOf", "(II)I"⟩
def dkwJ11_indexOf_2_1 : List UInt8 := [180, 0, 9, 27, 28, 42, 182, 1, 249, 184, 2, 128, 172]
abbrev dktJ11_indexOf_2_1 : List UInt8 := dkwJ11_indexOf_2_1 ++ []
def dkwJ11_indexOf_2_0 : List UInt8 := [42, 182, 1, 236, 153, 0, 19, 42, 180, 0, 9, 27, 28, 42, 182, 1, 249, 184, 2, 125, 167, 0, 16, 42]
abbrev dktJ11_indexOf_2_0 : List UInt8 := dkwJ11_indexOf_2_0 ++ dktJ11_indexOf_2_1
theorem dksJ11_indexOf_2_0 : cJ11_indexOf_2.data.toList.drop 0 = dktJ11_indexOf_2_0 := by decide +kernel
theorem dksJ11_indexOf_2_1 : cJ11_indexOf_2.data.toList.drop 24 = dktJ11_indexOf_2_1 := dk_seg dksJ11_indexOf_2_0 24 rfl rfl
theorem dJ11_indexOf_2_0 : decode cJ11_indexOf_2 0 = .ok (.aload_n 0, 1) := dk_42 (dk_at dksJ11_indexOf_2_0 0 rfl rfl)
theorem dJ11_indexOf_2_1 : decode cJ11_indexOf_2 1 = .ok (.invokevirtual 492, 3) := dk_182 1 236 (dk_at dksJ11_indexOf_2_0 1 rfl rfl)
theorem dJ11_indexOf_2_4 : decode cJ11_indexOf_2 4 = .ok (.ifCond .eq 19, 3) := dk_153 0 19 (dk_at dksJ11_indexOf_2_0 4 rfl rfl)
theorem dJ11_indexOf_2_7 : decode cJ11_indexOf_2 7 = .ok (.aload_n 0, 1) := dk_42 (dk_at dksJ11_indexOf_2_0 7 rfl rfl)
theorem dJ11_indexOf_2_8 : decode cJ11_indexOf_2 8 = .ok (.getfield 9, 3) := dk_180 0 9 (dk_at dksJ11_indexOf_2_0 8 rfl rfl)
theorem dJ11_indexOf_2_11 : decode cJ11_indexOf_2 11 = .ok (.iload_n 1, 1) := dk_27 (dk_at dksJ11_indexOf_2_0 11 rfl rfl)
theorem dJ11_indexOf_2_12 : decode cJ11_indexOf_2 12 = .ok (.iload_n 2, 1) := dk_28 (dk_at dksJ11_indexOf_2_0 12 rfl rfl)
theorem dJ11_indexOf_2_13 : decode cJ11_indexOf_2 13 = .ok (.aload_n 0, 1) := dk_42 (dk_at dksJ11_indexOf_2_0 13 rfl rfl)
theorem dJ11_indexOf_2_14 : decode cJ11_indexOf_2 14 = .ok (.invokevirtual 505, 3) := dk_182 1 249 (dk_at dksJ11_indexOf_2_0 14 rfl rfl)
theorem dJ11_indexOf_2_17 : decode cJ11_indexOf_2 17 = .ok (.invokestatic 637, 3) := dk_184 2 125 (dk_at dksJ11_indexOf_2_0 17 rfl rfl)
theorem dJ11_indexOf_2_20 : decode cJ11_indexOf_2 20 = .ok (.goto 16, 3) := dk_167 0 16 (dk_at dksJ11_indexOf_2_0 20 rfl rfl)
theorem dJ11_indexOf_2_23 : decode cJ11_indexOf_2 23 = .ok (.aload_n 0, 1) := dk_42 (dk_at dksJ11_indexOf_2_0 23 rfl rfl)
theorem dJ11_indexOf_2_24 : decode cJ11_indexOf_2 24 = .ok (.getfield 9, 3) := dk_180 0 9 (dk_at dksJ11_indexOf_2_1 0 rfl rfl)
theorem dJ11_indexOf_2_27 : decode cJ11_indexOf_2 27 = .ok (.iload_n 1, 1) := dk_27 (dk_at dksJ11_indexOf_2_1 3 rfl rfl)
theorem dJ11_indexOf_2_28 : decode cJ11_indexOf_2 28 = .ok (.iload_n 2, 1) := dk_28 (dk_at dksJ11_indexOf_2_1 4 rfl rfl)
theorem dJ11_indexOf_2_29 : decode cJ11_indexOf_2 29 = .ok (.aload_n 0, 1) := dk_42 (dk_at dksJ11_indexOf_2_1 5 rfl rfl)
theorem dJ11_indexOf_2_30 : decode cJ11_indexOf_2 30 = .ok (.invokevirtual 505, 3) := dk_182 1 249 (dk_at dksJ11_indexOf_2_1 6 rfl rfl)
theorem dJ11_indexOf_2_33 : decode cJ11_indexOf_2 33 = .ok (.invokestatic 640, 3) := dk_184 2 128 (dk_at dksJ11_indexOf_2_1 9 rfl rfl)
theorem dJ11_indexOf_2_36 : decode cJ11_indexOf_2 36 = .ok (.ireturn, 1) := dk_172 (dk_at dksJ11_indexOf_2_1 12 rfl rfl)
abbrev cJ11_isLatin1 : ByteArray := prog_68_method_154_code
def yJ11_isLatin1 : MethodName := ⟨RJ11, "isLatin1", "()Z"⟩
def dkwJ11_isLatin1_0 : List UInt8 := [178, 0, 38, 153, 0, 14, 42, 180, 0, 15, 154, 0, 7, 4, 167, 0, 4, 3, 172]
abbrev dktJ11_isLatin1_0 : List UInt8 := dkwJ11_isLatin1_0 ++ []
theorem dksJ11_isLatin1_0 : cJ11_isLatin1.data.toList.drop 0 = dktJ11_isLatin1_0 := by decide +kernel
theorem dJ11_isLatin1_0 : decode cJ11_isLatin1 0 = .ok (.getstatic 38, 3) := dk_178 0 38 (dk_at dksJ11_isLatin1_0 0 rfl rfl)
theorem dJ11_isLatin1_3 : decode cJ11_isLatin1 3 = .ok (.ifCond .eq 14, 3) := dk_153 0 14 (dk_at dksJ11_isLatin1_0 3 rfl rfl)
theorem dJ11_isLatin1_6 : decode cJ11_isLatin1 6 = .ok (.aload_n 0, 1) := dk_42 (dk_at dksJ11_isLatin1_0 6 rfl rfl)
theorem dJ11_isLatin1_7 : decode cJ11_isLatin1 7 = .ok (.getfield 15, 3) := dk_180 0 15 (dk_at dksJ11_isLatin1_0 7 rfl rfl)
theorem dJ11_isLatin1_10 : decode cJ11_isLatin1 10 = .ok (.ifCond .ne 7, 3) := dk_154 0 7 (dk_at dksJ11_isLatin1_0 10 rfl rfl)
theorem dJ11_isLatin1_13 : decode cJ11_isLatin1 13 = .ok (.iconst 1, 1) := dk_4 (dk_at dksJ11_isLatin1_0 13 rfl rfl)
theorem dJ11_isLatin1_14 : decode cJ11_isLatin1 14 = .ok (.goto 4, 3) := dk_167 0 4 (dk_at dksJ11_isLatin1_0 14 rfl rfl)
theorem dJ11_isLatin1_17 : decode cJ11_isLatin1 17 = .ok (.iconst 0, 1) := dk_3 (dk_at dksJ11_isLatin1_0 17 rfl rfl)
theorem dJ11_isLatin1_18 : decode cJ11_isLatin1 18 = .ok (.ireturn, 1) := dk_172 (dk_at dksJ11_isLatin1_0 18 rfl rfl)
abbrev cJ11_charAt : ByteArray := prog_68_method_56_code
def yJ11_charAt : MethodName := ⟨RJ11, "charAt", "(I)C"⟩
def dkwJ11_charAt_1 : List UInt8 := [172]
abbrev dktJ11_charAt_1 : List UInt8 := dkwJ11_charAt_1 ++ []
def dkwJ11_charAt_0 : List UInt8 := [42, 182, 1, 236, 153, 0, 12, 42, 180, 0, 9, 27, 184, 1, 239, 172, 42, 180, 0, 9, 27, 184, 1, 242]
abbrev dktJ11_charAt_0 : List UInt8 := dkwJ11_charAt_0 ++ dktJ11_charAt_1
theorem dksJ11_charAt_0 : cJ11_charAt.data.toList.drop 0 = dktJ11_charAt_0 := by decide +kernel
theorem dksJ11_charAt_1 : cJ11_charAt.data.toList.drop 24 = dktJ11_charAt_1 := dk_seg dksJ11_charAt_0 24 rfl rfl
theorem dJ11_charAt_0 : decode cJ11_charAt 0 = .ok (.aload_n 0, 1) := dk_42 (dk_at dksJ11_charAt_0 0 rfl rfl)
theorem dJ11_charAt_1 : decode cJ11_charAt 1 = .ok (.invokevirtual 492, 3) := dk_182 1 236 (dk_at dksJ11_charAt_0 1 rfl rfl)
theorem dJ11_charAt_4 : decode cJ11_charAt 4 = .ok (.ifCond .eq 12, 3) := dk_153 0 12 (dk_at dksJ11_charAt_0 4 rfl rfl)
theorem dJ11_charAt_7 : decode cJ11_charAt 7 = .ok (.aload_n 0, 1) := dk_42 (dk_at dksJ11_charAt_0 7 rfl rfl)
theorem dJ11_charAt_8 : decode cJ11_charAt 8 = .ok (.getfield 9, 3) := dk_180 0 9 (dk_at dksJ11_charAt_0 8 rfl rfl)
theorem dJ11_charAt_11 : decode cJ11_charAt 11 = .ok (.iload_n 1, 1) := dk_27 (dk_at dksJ11_charAt_0 11 rfl rfl)
theorem dJ11_charAt_12 : decode cJ11_charAt 12 = .ok (.invokestatic 495, 3) := dk_184 1 239 (dk_at dksJ11_charAt_0 12 rfl rfl)
theorem dJ11_charAt_15 : decode cJ11_charAt 15 = .ok (.ireturn, 1) := dk_172 (dk_at dksJ11_charAt_0 15 rfl rfl)
theorem dJ11_charAt_16 : decode cJ11_charAt 16 = .ok (.aload_n 0, 1) := dk_42 (dk_at dksJ11_charAt_0 16 rfl rfl)
theorem dJ11_charAt_17 : decode cJ11_charAt 17 = .ok (.getfield 9, 3) := dk_180 0 9 (dk_at dksJ11_charAt_0 17 rfl rfl)
theorem dJ11_charAt_20 : decode cJ11_charAt 20 = .ok (.iload_n 1, 1) := dk_27 (dk_at dksJ11_charAt_0 20 rfl rfl)
theorem dJ11_charAt_21 : decode cJ11_charAt 21 = .ok (.invokestatic 498, 3) := dk_184 1 242 (dk_at dksJ11_charAt_0 21 rfl rfl)
theorem dJ11_charAt_24 : decode cJ11_charAt 24 = .ok (.ireturn, 1) := dk_172 (dk_at dksJ11_charAt_1 0 rfl rfl)
abbrev cJ11_hashCode : ByteArray := prog_68_method_78_code
def yJ11_hashCode : MethodName := ⟨RJ11, "hashCode", "()I"⟩
def dkwJ11_hashCode_2 : List UInt8 := [181, 0, 23, 167, 0, 8, 42, 27, 181, 0, 19, 27, 172]
abbrev dktJ11_hashCode_2 : List UInt8 := dkwJ11_hashCode_2 ++ []
def dkwJ11_hashCode_1 : List UInt8 := [180, 0, 9, 184, 2, 116, 167, 0, 10, 42, 180, 0, 9, 184, 2, 120, 60, 27, 154, 0, 11, 42, 4]
abbrev dktJ11_hashCode_1 : List UInt8 := dkwJ11_hashCode_1 ++ dktJ11_hashCode_2
def dkwJ11_hashCode_0 : List UInt8 := [42, 180, 0, 19, 60, 27, 154, 0, 52, 42, 180, 0, 23, 154, 0, 45, 42, 182, 1, 236, 153, 0, 13, 42]
abbrev dktJ11_hashCode_0 : List UInt8 := dkwJ11_hashCode_0 ++ dktJ11_hashCode_1
theorem dksJ11_hashCode_0 : cJ11_hashCode.data.toList.drop 0 = dktJ11_hashCode_0 := by decide +kernel
theorem dksJ11_hashCode_1 : cJ11_hashCode.data.toList.drop 24 = dktJ11_hashCode_1 := dk_seg dksJ11_hashCode_0 24 rfl rfl
theorem dksJ11_hashCode_2 : cJ11_hashCode.data.toList.drop 47 = dktJ11_hashCode_2 := dk_seg dksJ11_hashCode_1 23 rfl rfl
theorem dJ11_hashCode_0 : decode cJ11_hashCode 0 = .ok (.aload_n 0, 1) := dk_42 (dk_at dksJ11_hashCode_0 0 rfl rfl)
theorem dJ11_hashCode_1 : decode cJ11_hashCode 1 = .ok (.getfield 19, 3) := dk_180 0 19 (dk_at dksJ11_hashCode_0 1 rfl rfl)
theorem dJ11_hashCode_4 : decode cJ11_hashCode 4 = .ok (.istore_n 1, 1) := dk_60 (dk_at dksJ11_hashCode_0 4 rfl rfl)
theorem dJ11_hashCode_5 : decode cJ11_hashCode 5 = .ok (.iload_n 1, 1) := dk_27 (dk_at dksJ11_hashCode_0 5 rfl rfl)
theorem dJ11_hashCode_6 : decode cJ11_hashCode 6 = .ok (.ifCond .ne 52, 3) := dk_154 0 52 (dk_at dksJ11_hashCode_0 6 rfl rfl)
theorem dJ11_hashCode_9 : decode cJ11_hashCode 9 = .ok (.aload_n 0, 1) := dk_42 (dk_at dksJ11_hashCode_0 9 rfl rfl)
theorem dJ11_hashCode_10 : decode cJ11_hashCode 10 = .ok (.getfield 23, 3) := dk_180 0 23 (dk_at dksJ11_hashCode_0 10 rfl rfl)
theorem dJ11_hashCode_13 : decode cJ11_hashCode 13 = .ok (.ifCond .ne 45, 3) := dk_154 0 45 (dk_at dksJ11_hashCode_0 13 rfl rfl)
theorem dJ11_hashCode_16 : decode cJ11_hashCode 16 = .ok (.aload_n 0, 1) := dk_42 (dk_at dksJ11_hashCode_0 16 rfl rfl)
theorem dJ11_hashCode_17 : decode cJ11_hashCode 17 = .ok (.invokevirtual 492, 3) := dk_182 1 236 (dk_at dksJ11_hashCode_0 17 rfl rfl)
theorem dJ11_hashCode_20 : decode cJ11_hashCode 20 = .ok (.ifCond .eq 13, 3) := dk_153 0 13 (dk_at dksJ11_hashCode_0 20 rfl rfl)
theorem dJ11_hashCode_23 : decode cJ11_hashCode 23 = .ok (.aload_n 0, 1) := dk_42 (dk_at dksJ11_hashCode_0 23 rfl rfl)
theorem dJ11_hashCode_24 : decode cJ11_hashCode 24 = .ok (.getfield 9, 3) := dk_180 0 9 (dk_at dksJ11_hashCode_1 0 rfl rfl)
theorem dJ11_hashCode_27 : decode cJ11_hashCode 27 = .ok (.invokestatic 628, 3) := dk_184 2 116 (dk_at dksJ11_hashCode_1 3 rfl rfl)
theorem dJ11_hashCode_30 : decode cJ11_hashCode 30 = .ok (.goto 10, 3) := dk_167 0 10 (dk_at dksJ11_hashCode_1 6 rfl rfl)
theorem dJ11_hashCode_33 : decode cJ11_hashCode 33 = .ok (.aload_n 0, 1) := dk_42 (dk_at dksJ11_hashCode_1 9 rfl rfl)
theorem dJ11_hashCode_34 : decode cJ11_hashCode 34 = .ok (.getfield 9, 3) := dk_180 0 9 (dk_at dksJ11_hashCode_1 10 rfl rfl)
theorem dJ11_hashCode_37 : decode cJ11_hashCode 37 = .ok (.invokestatic 632, 3) := dk_184 2 120 (dk_at dksJ11_hashCode_1 13 rfl rfl)
theorem dJ11_hashCode_40 : decode cJ11_hashCode 40 = .ok (.istore_n 1, 1) := dk_60 (dk_at dksJ11_hashCode_1 16 rfl rfl)
theorem dJ11_hashCode_41 : decode cJ11_hashCode 41 = .ok (.iload_n 1, 1) := dk_27 (dk_at dksJ11_hashCode_1 17 rfl rfl)
theorem dJ11_hashCode_42 : decode cJ11_hashCode 42 = .ok (.ifCond .ne 11, 3) := dk_154 0 11 (dk_at dksJ11_hashCode_1 18 rfl rfl)
theorem dJ11_hashCode_45 : decode cJ11_hashCode 45 = .ok (.aload_n 0, 1) := dk_42 (dk_at dksJ11_hashCode_1 21 rfl rfl)
theorem dJ11_hashCode_46 : decode cJ11_hashCode 46 = .ok (.iconst 1, 1) := dk_4 (dk_at dksJ11_hashCode_1 22 rfl rfl)
theorem dJ11_hashCode_47 : decode cJ11_hashCode 47 = .ok (.putfield 23, 3) := dk_181 0 23 (dk_at dksJ11_hashCode_2 0 rfl rfl)
theorem dJ11_hashCode_50 : decode cJ11_hashCode 50 = .ok (.goto 8, 3) := dk_167 0 8 (dk_at dksJ11_hashCode_2 3 rfl rfl)
theorem dJ11_hashCode_53 : decode cJ11_hashCode 53 = .ok (.aload_n 0, 1) := dk_42 (dk_at dksJ11_hashCode_2 6 rfl rfl)
theorem dJ11_hashCode_54 : decode cJ11_hashCode 54 = .ok (.iload_n 1, 1) := dk_27 (dk_at dksJ11_hashCode_2 7 rfl rfl)
theorem dJ11_hashCode_55 : decode cJ11_hashCode 55 = .ok (.putfield 19, 3) := dk_181 0 19 (dk_at dksJ11_hashCode_2 8 rfl rfl)
theorem dJ11_hashCode_58 : decode cJ11_hashCode 58 = .ok (.iload_n 1, 1) := dk_27 (dk_at dksJ11_hashCode_2 11 rfl rfl)
theorem dJ11_hashCode_59 : decode cJ11_hashCode 59 = .ok (.ireturn, 1) := dk_172 (dk_at dksJ11_hashCode_2 12 rfl rfl)
abbrev cJ11_compareTo : ByteArray := prog_68_method_162_code
def yJ11_compareTo : MethodName := ⟨RJ11, "compareTo", "(Ljava/lang/Object;)I"⟩
def dkwJ11_compareTo_0 : List UInt8 := [42, 43, 192, 0, 10, 182, 4, 60, 172]
abbrev dktJ11_compareTo_0 : List UInt8 := dkwJ11_compareTo_0 ++ []
theorem dksJ11_compareTo_0 : cJ11_compareTo.data.toList.drop 0 = dktJ11_compareTo_0 := by decide +kernel
theorem dJ11_compareTo_0 : decode cJ11_compareTo 0 = .ok (.aload_n 0, 1) := dk_42 (dk_at dksJ11_compareTo_0 0 rfl rfl)
theorem dJ11_compareTo_1 : decode cJ11_compareTo 1 = .ok (.aload_n 1, 1) := dk_43 (dk_at dksJ11_compareTo_0 1 rfl rfl)
theorem dJ11_compareTo_2 : decode cJ11_compareTo 2 = .ok (.checkcast 10, 3) := dk_192 0 10 (dk_at dksJ11_compareTo_0 2 rfl rfl)
theorem dJ11_compareTo_5 : decode cJ11_compareTo 5 = .ok (.invokevirtual 1084, 3) := dk_182 4 60 (dk_at dksJ11_compareTo_0 5 rfl rfl)
theorem dJ11_compareTo_8 : decode cJ11_compareTo 8 = .ok (.ireturn, 1) := dk_172 (dk_at dksJ11_compareTo_0 8 rfl rfl)
abbrev cJ11_compareTo_2 : ByteArray := prog_68_method_71_code
def yJ11_compareTo_2 : MethodName := ⟨RJ11, "compareTo", "(Ljava/lang/String;)I"⟩
def dkwJ11_compareTo_2_2 : List UInt8 := [154, 0, 11, 44, 45, 184, 2, 79, 167, 0, 8, 44, 45, 184, 2, 82, 172]
abbrev dktJ11_compareTo_2_2 : List UInt8 := dkwJ11_compareTo_2_2 ++ []
def dkwJ11_compareTo_2_1 : List UInt8 := [160, 0, 22, 21, 4, 154, 0, 11, 44, 45, 184, 2, 74, 167, 0, 8, 44, 45, 184, 2, 78, 172, 21, 4]
abbrev dktJ11_compareTo_2_1 : List UInt8 := dkwJ11_compareTo_2_1 ++ dktJ11_compareTo_2_2
def dkwJ11_compareTo_2_0 : List UInt8 := [42, 180, 0, 9, 77, 43, 180, 0, 9, 78, 42, 182, 1, 79, 54, 4, 21, 4, 43, 182, 1, 79]
abbrev dktJ11_compareTo_2_0 : List UInt8 := dkwJ11_compareTo_2_0 ++ dktJ11_compareTo_2_1
theorem dksJ11_compareTo_2_0 : cJ11_compareTo_2.data.toList.drop 0 = dktJ11_compareTo_2_0 := by decide +kernel
theorem dksJ11_compareTo_2_1 : cJ11_compareTo_2.data.toList.drop 22 = dktJ11_compareTo_2_1 := dk_seg dksJ11_compareTo_2_0 22 rfl rfl
theorem dksJ11_compareTo_2_2 : cJ11_compareTo_2.data.toList.drop 46 = dktJ11_compareTo_2_2 := dk_seg dksJ11_compareTo_2_1 24 rfl rfl
theorem dJ11_compareTo_2_0 : decode cJ11_compareTo_2 0 = .ok (.aload_n 0, 1) := dk_42 (dk_at dksJ11_compareTo_2_0 0 rfl rfl)
theorem dJ11_compareTo_2_1 : decode cJ11_compareTo_2 1 = .ok (.getfield 9, 3) := dk_180 0 9 (dk_at dksJ11_compareTo_2_0 1 rfl rfl)
theorem dJ11_compareTo_2_4 : decode cJ11_compareTo_2 4 = .ok (.astore_n 2, 1) := dk_77 (dk_at dksJ11_compareTo_2_0 4 rfl rfl)
theorem dJ11_compareTo_2_5 : decode cJ11_compareTo_2 5 = .ok (.aload_n 1, 1) := dk_43 (dk_at dksJ11_compareTo_2_0 5 rfl rfl)
theorem dJ11_compareTo_2_6 : decode cJ11_compareTo_2 6 = .ok (.getfield 9, 3) := dk_180 0 9 (dk_at dksJ11_compareTo_2_0 6 rfl rfl)
theorem dJ11_compareTo_2_9 : decode cJ11_compareTo_2 9 = .ok (.astore_n 3, 1) := dk_78 (dk_at dksJ11_compareTo_2_0 9 rfl rfl)
theorem dJ11_compareTo_2_10 : decode cJ11_compareTo_2 10 = .ok (.aload_n 0, 1) := dk_42 (dk_at dksJ11_compareTo_2_0 10 rfl rfl)
theorem dJ11_compareTo_2_11 : decode cJ11_compareTo_2 11 = .ok (.invokevirtual 335, 3) := dk_182 1 79 (dk_at dksJ11_compareTo_2_0 11 rfl rfl)
theorem dJ11_compareTo_2_14 : decode cJ11_compareTo_2 14 = .ok (.istore 4, 2) := dk_54 4 (dk_at dksJ11_compareTo_2_0 14 rfl rfl)
theorem dJ11_compareTo_2_16 : decode cJ11_compareTo_2 16 = .ok (.iload 4, 2) := dk_21 4 (dk_at dksJ11_compareTo_2_0 16 rfl rfl)
theorem dJ11_compareTo_2_18 : decode cJ11_compareTo_2 18 = .ok (.aload_n 1, 1) := dk_43 (dk_at dksJ11_compareTo_2_0 18 rfl rfl)
theorem dJ11_compareTo_2_19 : decode cJ11_compareTo_2 19 = .ok (.invokevirtual 335, 3) := dk_182 1 79 (dk_at dksJ11_compareTo_2_0 19 rfl rfl)
theorem dJ11_compareTo_2_22 : decode cJ11_compareTo_2 22 = .ok (.if_icmp .ne 22, 3) := dk_160 0 22 (dk_at dksJ11_compareTo_2_1 0 rfl rfl)
theorem dJ11_compareTo_2_25 : decode cJ11_compareTo_2 25 = .ok (.iload 4, 2) := dk_21 4 (dk_at dksJ11_compareTo_2_1 3 rfl rfl)
theorem dJ11_compareTo_2_27 : decode cJ11_compareTo_2 27 = .ok (.ifCond .ne 11, 3) := dk_154 0 11 (dk_at dksJ11_compareTo_2_1 5 rfl rfl)
theorem dJ11_compareTo_2_30 : decode cJ11_compareTo_2 30 = .ok (.aload_n 2, 1) := dk_44 (dk_at dksJ11_compareTo_2_1 8 rfl rfl)
theorem dJ11_compareTo_2_31 : decode cJ11_compareTo_2 31 = .ok (.aload_n 3, 1) := dk_45 (dk_at dksJ11_compareTo_2_1 9 rfl rfl)
theorem dJ11_compareTo_2_32 : decode cJ11_compareTo_2 32 = .ok (.invokestatic 586, 3) := dk_184 2 74 (dk_at dksJ11_compareTo_2_1 10 rfl rfl)
theorem dJ11_compareTo_2_35 : decode cJ11_compareTo_2 35 = .ok (.goto 8, 3) := dk_167 0 8 (dk_at dksJ11_compareTo_2_1 13 rfl rfl)
theorem dJ11_compareTo_2_38 : decode cJ11_compareTo_2 38 = .ok (.aload_n 2, 1) := dk_44 (dk_at dksJ11_compareTo_2_1 16 rfl rfl)
theorem dJ11_compareTo_2_39 : decode cJ11_compareTo_2 39 = .ok (.aload_n 3, 1) := dk_45 (dk_at dksJ11_compareTo_2_1 17 rfl rfl)
theorem dJ11_compareTo_2_40 : decode cJ11_compareTo_2 40 = .ok (.invokestatic 590, 3) := dk_184 2 78 (dk_at dksJ11_compareTo_2_1 18 rfl rfl)
theorem dJ11_compareTo_2_43 : decode cJ11_compareTo_2 43 = .ok (.ireturn, 1) := dk_172 (dk_at dksJ11_compareTo_2_1 21 rfl rfl)
theorem dJ11_compareTo_2_44 : decode cJ11_compareTo_2 44 = .ok (.iload 4, 2) := dk_21 4 (dk_at dksJ11_compareTo_2_1 22 rfl rfl)
theorem dJ11_compareTo_2_46 : decode cJ11_compareTo_2 46 = .ok (.ifCond .ne 11, 3) := dk_154 0 11 (dk_at dksJ11_compareTo_2_2 0 rfl rfl)
theorem dJ11_compareTo_2_49 : decode cJ11_compareTo_2 49 = .ok (.aload_n 2, 1) := dk_44 (dk_at dksJ11_compareTo_2_2 3 rfl rfl)
theorem dJ11_compareTo_2_50 : decode cJ11_compareTo_2 50 = .ok (.aload_n 3, 1) := dk_45 (dk_at dksJ11_compareTo_2_2 4 rfl rfl)
theorem dJ11_compareTo_2_51 : decode cJ11_compareTo_2 51 = .ok (.invokestatic 591, 3) := dk_184 2 79 (dk_at dksJ11_compareTo_2_2 5 rfl rfl)
theorem dJ11_compareTo_2_54 : decode cJ11_compareTo_2 54 = .ok (.goto 8, 3) := dk_167 0 8 (dk_at dksJ11_compareTo_2_2 8 rfl rfl)
theorem dJ11_compareTo_2_57 : decode cJ11_compareTo_2 57 = .ok (.aload_n 2, 1) := dk_44 (dk_at dksJ11_compareTo_2_2 11 rfl rfl)
theorem dJ11_compareTo_2_58 : decode cJ11_compareTo_2 58 = .ok (.aload_n 3, 1) := dk_45 (dk_at dksJ11_compareTo_2_2 12 rfl rfl)
theorem dJ11_compareTo_2_59 : decode cJ11_compareTo_2 59 = .ok (.invokestatic 594, 3) := dk_184 2 82 (dk_at dksJ11_compareTo_2_2 13 rfl rfl)
theorem dJ11_compareTo_2_62 : decode cJ11_compareTo_2 62 = .ok (.ireturn, 1) := dk_172 (dk_at dksJ11_compareTo_2_2 16 rfl rfl)
abbrev cJ11_checkOffset : ByteArray := prog_68_method_156_code
def yJ11_checkOffset : MethodName := ⟨RJ11, "checkOffset", "(II)V"⟩
def dkwJ11_checkOffset_0 : List UInt8 := [26, 27, 27, 178, 4, 29, 184, 4, 38, 87, 177]
abbrev dktJ11_checkOffset_0 : List UInt8 := dkwJ11_checkOffset_0 ++ []
theorem dksJ11_checkOffset_0 : cJ11_checkOffset.data.toList.drop 0 = dktJ11_checkOffset_0 := by decide +kernel
theorem dJ11_checkOffset_0 : decode cJ11_checkOffset 0 = .ok (.iload_n 0, 1) := dk_26 (dk_at dksJ11_checkOffset_0 0 rfl rfl)
theorem dJ11_checkOffset_1 : decode cJ11_checkOffset 1 = .ok (.iload_n 1, 1) := dk_27 (dk_at dksJ11_checkOffset_0 1 rfl rfl)
theorem dJ11_checkOffset_2 : decode cJ11_checkOffset 2 = .ok (.iload_n 1, 1) := dk_27 (dk_at dksJ11_checkOffset_0 2 rfl rfl)
theorem dJ11_checkOffset_3 : decode cJ11_checkOffset 3 = .ok (.getstatic 1053, 3) := dk_178 4 29 (dk_at dksJ11_checkOffset_0 3 rfl rfl)
theorem dJ11_checkOffset_6 : decode cJ11_checkOffset 6 = .ok (.invokestatic 1062, 3) := dk_184 4 38 (dk_at dksJ11_checkOffset_0 6 rfl rfl)
theorem dJ11_checkOffset_9 : decode cJ11_checkOffset 9 = .ok (.pop, 1) := dk_87 (dk_at dksJ11_checkOffset_0 9 rfl rfl)
theorem dJ11_checkOffset_10 : decode cJ11_checkOffset 10 = .ok (.return_, 1) := dk_177 (dk_at dksJ11_checkOffset_0 10 rfl rfl)
theorem q121 : (Jvm.Cond.initialized "java/lang/String") ∈ lw_all := lw_g (lw_at lw_m1 22 rfl) rfl
theorem q366 : (Jvm.Cond.laysStatic "java/lang/String" "COMPACT_STRINGS" "Z") ∈ lw_tbl := lw_at lw_m2 27 rfl
theorem q376 : (Jvm.Cond.fieldLink "java/lang/String" (1048 : Nat) "java/lang/AbstractStringBuilder" "maybeLatin1" "Z") ∈ lw_all := lw_g (lw_at lw_m2 37 rfl) rfl
theorem q455 : (Jvm.Cond.static ({ cls := "java/lang/String", name := "checkBoundsOffCount", desc := "(III)I" } : Jvm.MethodName)) ∈ lw_all := lw_g (lw_at lw_m2 116 rfl) rfl
theorem q456 : (Jvm.Cond.code ({ cls := "java/lang/String", name := "checkBoundsOffCount", desc := "(III)I" } : Jvm.MethodName) prog_68_method_157_code (3 : Nat) (Option.some Jvm.ClassFile.FieldType.int)) ∈ lw_all := lw_g (lw_at lw_m2 117 rfl) rfl
theorem q457 : (Jvm.Cond.fieldLink "java/lang/String" (1053 : Nat) "jdk/internal/util/Preconditions" "SIOOBE_FORMATTER" "Ljava/util/function/BiFunction;") ∈ lw_all := lw_g (lw_at lw_m2 118 rfl) rfl
theorem q459 : (Jvm.Cond.methodLink "java/lang/String" (1065 : Nat) ({ cls := "jdk/internal/util/Preconditions", name := "checkFromIndexSize", desc := "(IIILjava/util/function/BiFunction;)I" } : Jvm.MethodName)) ∈ lw_all := lw_g (lw_at lw_m2 120 rfl) rfl
theorem q478 : (Jvm.Cond.static ({ cls := "java/lang/String", name := "checkIndex", desc := "(II)V" } : Jvm.MethodName)) ∈ lw_all := lw_g (lw_at lw_m2 139 rfl) rfl
theorem q479 : (Jvm.Cond.code ({ cls := "java/lang/String", name := "checkIndex", desc := "(II)V" } : Jvm.MethodName) prog_68_method_155_code (2 : Nat) (Option.none : Option Jvm.ClassFile.FieldType)) ∈ lw_all := lw_g (lw_at lw_m2 140 rfl) rfl
theorem q480 : (Jvm.Cond.methodLink "java/lang/String" (1059 : Nat) ({ cls := "jdk/internal/util/Preconditions", name := "checkIndex", desc := "(IILjava/util/function/BiFunction;)I" } : Jvm.MethodName)) ∈ lw_all := lw_g (lw_at lw_m2 141 rfl) rfl
theorem q488 : (Jvm.Cond.instantiable "java/lang/String" (4 : Nat)) ∈ lw_all := lw_g (lw_at lw_m2 149 rfl) rfl
theorem q490 : (Jvm.Cond.instanceMethod ({ cls := "java/lang/String", name := "<init>", desc := "(Ljava/lang/StringBuilder;)V" } : Jvm.MethodName)) ∈ lw_all := lw_g (lw_at lw_m2 151 rfl) rfl
theorem q491 : (Jvm.Cond.code ({ cls := "java/lang/String", name := "<init>", desc := "(Ljava/lang/StringBuilder;)V" } : Jvm.MethodName) prog_68_method_53_code (2 : Nat) (Option.none : Option Jvm.ClassFile.FieldType)) ∈ lw_all := lw_g (lw_at lw_m2 152 rfl) rfl
theorem q492 : (Jvm.Cond.methodLink "java/lang/String" (489 : Nat) ({ cls := "java/lang/String", name := "<init>", desc := "(Ljava/lang/AbstractStringBuilder;Ljava/lang/Void;)V" } : Jvm.MethodName)) ∈ lw_all := lw_g (lw_at lw_m2 153 rfl) rfl
theorem q493 : (Jvm.Cond.instanceMethod ({ cls := "java/lang/String", name := "<init>", desc := "(Ljava/lang/AbstractStringBuilder;Ljava/lang/Void;)V" } : Jvm.MethodName)) ∈ lw_all := lw_g (lw_at lw_m2 154 rfl) rfl
theorem q494 : (Jvm.Cond.code ({ cls := "java/lang/String", name := "<init>", desc := "(Ljava/lang/AbstractStringBuilder;Ljava/lang/Void;)V" } : Jvm.MethodName) prog_68_method_150_code (5 : Nat) (Option.none : Option Jvm.ClassFile.FieldType)) ∈ lw_all := lw_g (lw_at lw_m2 155 rfl) rfl
theorem q495 : (Jvm.Cond.methodLink "java/lang/String" (1 : Nat) ({ cls := "java/lang/Object", name := "<init>", desc := "()V" } : Jvm.MethodName)) ∈ lw_all := lw_g (lw_at lw_m2 156 rfl) rfl
theorem q496 : (Jvm.Cond.methodLink "java/lang/String" (552 : Nat) ({ cls := "java/lang/AbstractStringBuilder", name := "getValue", desc := "()[B" } : Jvm.MethodName)) ∈ lw_all := lw_g (lw_at lw_m2 157 rfl) rfl
theorem q501 : (Jvm.Cond.methodLink "java/lang/String" (549 : Nat) ({ cls := "java/lang/AbstractStringBuilder", name := "length", desc := "()I" } : Jvm.MethodName)) ∈ lw_all := lw_g (lw_at lw_m2 162 rfl) rfl
theorem q509 : (Jvm.Cond.methodLink "java/lang/String" (1047 : Nat) ({ cls := "java/lang/AbstractStringBuilder", name := "isLatin1", desc := "()Z" } : Jvm.MethodName)) ∈ lw_all := lw_g (lw_at lw_m2 170 rfl) rfl
theorem q510 : (Jvm.Cond.methodLink "java/lang/String" (54 : Nat) ({ cls := "java/util/Arrays", name := "copyOfRange", desc := "([BII)[B" } : Jvm.MethodName)) ∈ lw_all := lw_g (lw_at lw_m2 171 rfl) rfl
theorem q588 : (Jvm.Cond.static ({ cls := "java/lang/String", name := "checkBoundsBeginEnd", desc := "(III)V" } : Jvm.MethodName)) ∈ lw_all := lw_g (lw_at lw_m3 9 rfl) rfl
theorem q589 : (Jvm.Cond.code ({ cls := "java/lang/String", name := "checkBoundsBeginEnd", desc := "(III)V" } : Jvm.MethodName) prog_68_method_158_code (3 : Nat) (Option.none : Option Jvm.ClassFile.FieldType)) ∈ lw_all := lw_g (lw_at lw_m3 10 rfl) rfl
theorem q590 : (Jvm.Cond.methodLink "java/lang/String" (1062 : Nat) ({ cls := "jdk/internal/util/Preconditions", name := "checkFromToIndex", desc := "(IIILjava/util/function/BiFunction;)I" } : Jvm.MethodName)) ∈ lw_all := lw_g (lw_at lw_m3 11 rfl) rfl
theorem q614 : (Jvm.Cond.instanceMethod ({ cls := "java/lang/String", name := "length", desc := "()I" } : Jvm.MethodName)) ∈ lw_all := lw_g (lw_at lw_m3 35 rfl) rfl
theorem q615 : (Jvm.Cond.selects "java/lang/String" ({ cls := "java/lang/String", name := "length", desc := "()I" } : Jvm.MethodName) ({ cls := "java/lang/String", name := "length", desc := "()I" } : Jvm.MethodName)) ∈ lw_all := lw_g (lw_at lw_m3 36 rfl) rfl
theorem q616 : (Jvm.Cond.code ({ cls := "java/lang/String", name := "length", desc := "()I" } : Jvm.MethodName) prog_68_method_54_code (1 : Nat) (Option.some Jvm.ClassFile.FieldType.int)) ∈ lw_all := lw_g (lw_at lw_m3 37 rfl) rfl
theorem q617 : (Jvm.Cond.methodLink "java/lang/String" (335 : Nat) ({ cls := "java/lang/String", name := "coder", desc := "()B" } : Jvm.MethodName)) ∈ lw_all := lw_g (lw_at lw_m3 38 rfl) rfl
theorem q618 : (Jvm.Cond.instanceMethod ({ cls := "java/lang/String", name := "coder", desc := "()B" } : Jvm.MethodName)) ∈ lw_all := lw_g (lw_at lw_m3 39 rfl) rfl
theorem q619 : (Jvm.Cond.selects "java/lang/String" ({ cls := "java/lang/String", name := "coder", desc := "()B" } : Jvm.MethodName) ({ cls := "java/lang/String", name := "coder", desc := "()B" } : Jvm.MethodName)) ∈ lw_all := lw_g (lw_at lw_m3 40 rfl) rfl
theorem q620 : (Jvm.Cond.code ({ cls := "java/lang/String", name := "coder", desc := "()B" } : Jvm.MethodName) prog_68_method_152_code (1 : Nat) (Option.some Jvm.ClassFile.FieldType.byte)) ∈ lw_all := lw_g (lw_at lw_m3 41 rfl) rfl
theorem q621 : (Jvm.Cond.fieldLink "java/lang/String" (38 : Nat) "java/lang/String" "COMPACT_STRINGS" "Z") ∈ lw_all := lw_g (lw_at lw_m3 42 rfl) rfl
theorem q632 : (Jvm.Cond.instanceMethod ({ cls := "java/lang/String", name := "getBytes", desc := "([BIB)V" } : Jvm.MethodName)) ∈ lw_all := lw_g (lw_at lw_m3 53 rfl) rfl
theorem q633 : (Jvm.Cond.selects "java/lang/String" ({ cls := "java/lang/String", name := "getBytes", desc := "([BIB)V" } : Jvm.MethodName) ({ cls := "java/lang/String", name := "getBytes", desc := "([BIB)V" } : Jvm.MethodName)) ∈ lw_all := lw_g (lw_at lw_m3 54 rfl) rfl
theorem q634 : (Jvm.Cond.code ({ cls := "java/lang/String", name := "getBytes", desc := "([BIB)V" } : Jvm.MethodName) prog_68_method_147_code (4 : Nat) (Option.none : Option Jvm.ClassFile.FieldType)) ∈ lw_all := lw_g (lw_at lw_m3 55 rfl) rfl
theorem q635 : (Jvm.Cond.methodLink "java/lang/String" (212 : Nat) ({ cls := "java/lang/System", name := "arraycopy", desc := "(Ljava/lang/Object;ILjava/lang/Object;II)V" } : Jvm.MethodName)) ∈ lw_all := lw_g (lw_at lw_m3 56 rfl) rfl
theorem q636 : (Jvm.Cond.methodLink "java/lang/String" (106 : Nat) ({ cls := "java/lang/StringLatin1", name := "inflate", desc := "([BI[BII)V" } : Jvm.MethodName)) ∈ lw_all := lw_g (lw_at lw_m3 57 rfl) rfl
theorem q663 : (Jvm.Cond.methodLink "java/lang/String" (1051 : Nat) ({ cls := "java/lang/StringUTF16", name := "compress", desc := "([BII)[B" } : Jvm.MethodName)) ∈ lw_all := lw_g (lw_at lw_m3 84 rfl) rfl
theorem q673 : (Jvm.Cond.methodLink "java/lang/String" (47 : Nat) ({ cls := "java/lang/StringUTF16", name := "coderFromArrayLen", desc := "([BI)B" } : Jvm.MethodName)) ∈ lw_all := lw_g (lw_at lw_m3 94 rfl) rfl
theorem q676 : (Jvm.Cond.fieldLink "java/lang/String" (9 : Nat) "java/lang/String" "value" "[B") ∈ lw_all := lw_g (lw_at lw_m3 97 rfl) rfl
theorem q677 : (Jvm.Cond.fieldLink "java/lang/String" (15 : Nat) "java/lang/String" "coder" "B") ∈ lw_all := lw_g (lw_at lw_m3 98 rfl) rfl
theorem q678 : (Jvm.Cond.fieldLink "java/lang/String" (19 : Nat) "java/lang/String" "hash" "I") ∈ lw_all := lw_g (lw_at lw_m3 99 rfl) rfl
theorem q679 : (Jvm.Cond.fieldLink "java/lang/String" (23 : Nat) "java/lang/String" "hashIsZero" "Z") ∈ lw_all := lw_g (lw_at lw_m3 100 rfl) rfl
theorem q680 : (Jvm.Cond.laysFinal "java/lang/String" "java/lang/String" "value" "[B") ∈ lw_all := lw_g (lw_at lw_m3 101 rfl) rfl
theorem q681 : (Jvm.Cond.soleField "java/lang/String" "value") ∈ lw_all := lw_g (lw_at lw_m3 102 rfl) rfl
theorem q682 : (Jvm.Cond.laysFinal "java/lang/String" "java/lang/String" "coder" "B") ∈ lw_all := lw_g (lw_at lw_m3 103 rfl) rfl
theorem q683 : (Jvm.Cond.soleField "java/lang/String" "coder") ∈ lw_all := lw_g (lw_at lw_m3 104 rfl) rfl
theorem q684 : (Jvm.Cond.lays "java/lang/String" "java/lang/String" "hash" "I") ∈ lw_all := lw_g (lw_at lw_m3 105 rfl) rfl
theorem q685 : (Jvm.Cond.soleField "java/lang/String" "hash") ∈ lw_all := lw_g (lw_at lw_m3 106 rfl) rfl
theorem q686 : (Jvm.Cond.lays "java/lang/String" "java/lang/String" "hashIsZero" "Z") ∈ lw_all := lw_g (lw_at lw_m3 107 rfl) rfl
theorem q687 : (Jvm.Cond.soleField "java/lang/String" "hashIsZero") ∈ lw_all := lw_g (lw_at lw_m3 108 rfl) rfl
theorem q688 : (Jvm.Cond.superclass "java/lang/String" "java/lang/Object") ∈ lw_all := lw_g (lw_at lw_m3 109 rfl) rfl
theorem q696 : (Jvm.Cond.instanceMethod ({ cls := "java/lang/String", name := "equals", desc := "(Ljava/lang/Object;)Z" } : Jvm.MethodName)) ∈ lw_all := lw_g (lw_at lw_m3 117 rfl) rfl
theorem q697 : (Jvm.Cond.selects "java/lang/String" ({ cls := "java/lang/String", name := "equals", desc := "(Ljava/lang/Object;)Z" } : Jvm.MethodName) ({ cls := "java/lang/String", name := "equals", desc := "(Ljava/lang/Object;)Z" } : Jvm.MethodName)) ∈ lw_all := lw_g (lw_at lw_m3 118 rfl) rfl
theorem q698 : (Jvm.Cond.code ({ cls := "java/lang/String", name := "equals", desc := "(Ljava/lang/Object;)Z" } : Jvm.MethodName) prog_68_method_66_code (3 : Nat) (Option.some Jvm.ClassFile.FieldType.boolean)) ∈ lw_all := lw_g (lw_at lw_m3 119 rfl) rfl
theorem q699 : (Jvm.Cond.classLink "java/lang/String" (10 : Nat) "java/lang/String") ∈ lw_all := lw_g (lw_at lw_m3 120 rfl) rfl
theorem q700 : (Jvm.Cond.methodLink "java/lang/String" (541 : Nat) ({ cls := "java/lang/StringLatin1", name := "equals", desc := "([B[B)Z" } : Jvm.MethodName)) ∈ lw_all := lw_g (lw_at lw_m3 121 rfl) rfl
theorem q711 : (Jvm.Cond.instanceMethod ({ cls := "java/lang/String", name := "indexOf", desc := "(I)I" } : Jvm.MethodName)) ∈ lw_all := lw_g (lw_at lw_m3 132 rfl) rfl
theorem q712 : (Jvm.Cond.selects "java/lang/String" ({ cls := "java/lang/String", name := "indexOf", desc := "(I)I" } : Jvm.MethodName) ({ cls := "java/lang/String", name := "indexOf", desc := "(I)I" } : Jvm.MethodName)) ∈ lw_all := lw_g (lw_at lw_m3 133 rfl) rfl
theorem q713 : (Jvm.Cond.code ({ cls := "java/lang/String", name := "indexOf", desc := "(I)I" } : Jvm.MethodName) prog_68_method_79_code (2 : Nat) (Option.some Jvm.ClassFile.FieldType.int)) ∈ lw_all := lw_g (lw_at lw_m3 134 rfl) rfl
theorem q714 : (Jvm.Cond.methodLink "java/lang/String" (633 : Nat) ({ cls := "java/lang/String", name := "indexOf", desc := "(II)I" } : Jvm.MethodName)) ∈ lw_all := lw_g (lw_at lw_m3 135 rfl) rfl
theorem q715 : (Jvm.Cond.instanceMethod ({ cls := "java/lang/String", name := "indexOf", desc := "(II)I" } : Jvm.MethodName)) ∈ lw_all := lw_g (lw_at lw_m3 136 rfl) rfl
theorem q716 : (Jvm.Cond.selects "java/lang/String" ({ cls := "java/lang/String", name := "indexOf", desc := "(II)I" } : Jvm.MethodName) ({ cls := "java/lang/String", name := "indexOf", desc := "(II)I" } : Jvm.MethodName)) ∈ lw_all := lw_g (lw_at lw_m3 137 rfl) rfl
theorem q717 : (Jvm.Cond.code ({ cls := "java/lang/String", name := "indexOf", desc := "(II)I" } : Jvm.MethodName) prog_68_method_80_code (3 : Nat) (Option.some Jvm.ClassFile.FieldType.int)) ∈ lw_all := lw_g (lw_at lw_m3 138 rfl) rfl
theorem q718 : (Jvm.Cond.methodLink "java/lang/String" (492 : Nat) ({ cls := "java/lang/String", name := "isLatin1", desc := "()Z" } : Jvm.MethodName)) ∈ lw_all := lw_g (lw_at lw_m3 139 rfl) rfl
theorem q719 : (Jvm.Cond.instanceMethod ({ cls := "java/lang/String", name := "isLatin1", desc := "()Z" } : Jvm.MethodName)) ∈ lw_all := lw_g (lw_at lw_m3 140 rfl) rfl
theorem q720 : (Jvm.Cond.selects "java/lang/String" ({ cls := "java/lang/String", name := "isLatin1", desc := "()Z" } : Jvm.MethodName) ({ cls := "java/lang/String", name := "isLatin1", desc := "()Z" } : Jvm.MethodName)) ∈ lw_all := lw_g (lw_at lw_m3 141 rfl) rfl
theorem q721 : (Jvm.Cond.code ({ cls := "java/lang/String", name := "isLatin1", desc := "()Z" } : Jvm.MethodName) prog_68_method_154_code (1 : Nat) (Option.some Jvm.ClassFile.FieldType.boolean)) ∈ lw_all := lw_g (lw_at lw_m3 142 rfl) rfl
theorem q722 : (Jvm.Cond.methodLink "java/lang/String" (505 : Nat) ({ cls := "java/lang/String", name := "length", desc := "()I" } : Jvm.MethodName)) ∈ lw_all := lw_g (lw_at lw_m3 143 rfl) rfl
theorem q723 : (Jvm.Cond.methodLink "java/lang/String" (637 : Nat) ({ cls := "java/lang/StringLatin1", name := "indexOf", desc := "([BIII)I" } : Jvm.MethodName)) ∈ lw_all := lw_g (lw_at lw_m3 144 rfl) rfl
theorem q734 : (Jvm.Cond.methodLink "java/lang/String" (640 : Nat) ({ cls := "java/lang/StringUTF16", name := "indexOf", desc := "([BIII)I" } : Jvm.MethodName)) ∈ lw_all := lw_g (lw_at lw_m3 155 rfl) rfl
theorem q831 : (Jvm.Cond.selects "java/lang/String" ({ cls := "java/lang/Object", name := "getClass", desc := "()Ljava/lang/Class;" } : Jvm.MethodName) ({ cls := "java/lang/Object", name := "getClass", desc := "()Ljava/lang/Class;" } : Jvm.MethodName)) ∈ lw_all := lw_g (lw_at lw_m4 12 rfl) rfl
theorem q997 : (Jvm.Cond.instanceMethod ({ cls := "java/lang/String", name := "charAt", desc := "(I)C" } : Jvm.MethodName)) ∈ lw_all := lw_g (lw_at lw_m4 178 rfl) rfl
theorem q998 : (Jvm.Cond.selects "java/lang/String" ({ cls := "java/lang/String", name := "charAt", desc := "(I)C" } : Jvm.MethodName) ({ cls := "java/lang/String", name := "charAt", desc := "(I)C" } : Jvm.MethodName)) ∈ lw_all := lw_g (lw_at lw_m4 179 rfl) rfl
theorem q999 : (Jvm.Cond.code ({ cls := "java/lang/String", name := "charAt", desc := "(I)C" } : Jvm.MethodName) prog_68_method_56_code (2 : Nat) (Option.some Jvm.ClassFile.FieldType.char)) ∈ lw_all := lw_g (lw_at lw_m4 180 rfl) rfl
theorem q1000 : (Jvm.Cond.methodLink "java/lang/String" (495 : Nat) ({ cls := "java/lang/StringLatin1", name := "charAt", desc := "([BI)C" } : Jvm.MethodName)) ∈ lw_all := lw_g (lw_at lw_m4 181 rfl) rfl
theorem q1004 : (Jvm.Cond.methodLink "java/lang/String" (498 : Nat) ({ cls := "java/lang/StringUTF16", name := "charAt", desc := "([BI)C" } : Jvm.MethodName)) ∈ lw_all := lw_g (lw_at lw_m4 185 rfl) rfl
theorem q1099 : (Jvm.Cond.selects "java/lang/String" ({ cls := "java/lang/Object", name := "hashCode", desc := "()I" } : Jvm.MethodName) ({ cls := "java/lang/String", name := "hashCode", desc := "()I" } : Jvm.MethodName)) ∈ lw_all := lw_g (lw_at lw_m5 40 rfl) rfl
theorem q1100 : (Jvm.Cond.instanceMethod ({ cls := "java/lang/String", name := "hashCode", desc := "()I" } : Jvm.MethodName)) ∈ lw_all := lw_g (lw_at lw_m5 41 rfl) rfl
theorem q1101 : (Jvm.Cond.code ({ cls := "java/lang/String", name := "hashCode", desc := "()I" } : Jvm.MethodName) prog_68_method_78_code (2 : Nat) (Option.some Jvm.ClassFile.FieldType.int)) ∈ lw_all := lw_g (lw_at lw_m5 42 rfl) rfl
theorem q1102 : (Jvm.Cond.methodLink "java/lang/String" (628 : Nat) ({ cls := "java/lang/StringLatin1", name := "hashCode", desc := "([B)I" } : Jvm.MethodName)) ∈ lw_all := lw_g (lw_at lw_m5 43 rfl) rfl
theorem q1151 : (Jvm.Cond.methodLink "java/lang/String" (632 : Nat) ({ cls := "java/lang/StringUTF16", name := "hashCode", desc := "([B)I" } : Jvm.MethodName)) ∈ lw_all := lw_g (lw_at lw_m5 92 rfl) rfl
theorem q1218 : (Jvm.Cond.selects "java/lang/String" ({ cls := "java/lang/Object", name := "equals", desc := "(Ljava/lang/Object;)Z" } : Jvm.MethodName) ({ cls := "java/lang/String", name := "equals", desc := "(Ljava/lang/Object;)Z" } : Jvm.MethodName)) ∈ lw_all := lw_g (lw_at lw_m5 159 rfl) rfl
theorem q1366 : (Jvm.Cond.castable "java/lang/String" "java/lang/Comparable") ∈ lw_tbl := lw_at lw_m6 67 rfl
theorem q1367 : (Jvm.Cond.selects "java/lang/String" ({ cls := "java/lang/Comparable", name := "compareTo", desc := "(Ljava/lang/Object;)I" } : Jvm.MethodName) ({ cls := "java/lang/String", name := "compareTo", desc := "(Ljava/lang/Object;)I" } : Jvm.MethodName)) ∈ lw_all := lw_g (lw_at lw_m6 68 rfl) rfl
theorem q1368 : (Jvm.Cond.unhidden "java/lang/String" "compareTo" "(Ljava/lang/Object;)I") ∈ lw_tbl := lw_at lw_m6 69 rfl
theorem q1369 : (Jvm.Cond.instanceMethod ({ cls := "java/lang/String", name := "compareTo", desc := "(Ljava/lang/Object;)I" } : Jvm.MethodName)) ∈ lw_all := lw_g (lw_at lw_m6 70 rfl) rfl
theorem q1370 : (Jvm.Cond.publicMethod ({ cls := "java/lang/String", name := "compareTo", desc := "(Ljava/lang/Object;)I" } : Jvm.MethodName)) ∈ lw_tbl := lw_at lw_m6 71 rfl
theorem q1371 : (Jvm.Cond.code ({ cls := "java/lang/String", name := "compareTo", desc := "(Ljava/lang/Object;)I" } : Jvm.MethodName) prog_68_method_162_code (2 : Nat) (Option.some Jvm.ClassFile.FieldType.int)) ∈ lw_all := lw_g (lw_at lw_m6 72 rfl) rfl
theorem q1372 : (Jvm.Cond.methodLink "java/lang/String" (1084 : Nat) ({ cls := "java/lang/String", name := "compareTo", desc := "(Ljava/lang/String;)I" } : Jvm.MethodName)) ∈ lw_all := lw_g (lw_at lw_m6 73 rfl) rfl
theorem q1373 : (Jvm.Cond.instanceMethod ({ cls := "java/lang/String", name := "compareTo", desc := "(Ljava/lang/String;)I" } : Jvm.MethodName)) ∈ lw_all := lw_g (lw_at lw_m6 74 rfl) rfl
theorem q1374 : (Jvm.Cond.selects "java/lang/String" ({ cls := "java/lang/String", name := "compareTo", desc := "(Ljava/lang/String;)I" } : Jvm.MethodName) ({ cls := "java/lang/String", name := "compareTo", desc := "(Ljava/lang/String;)I" } : Jvm.MethodName)) ∈ lw_all := lw_g (lw_at lw_m6 75 rfl) rfl
theorem q1375 : (Jvm.Cond.code ({ cls := "java/lang/String", name := "compareTo", desc := "(Ljava/lang/String;)I" } : Jvm.MethodName) prog_68_method_71_code (5 : Nat) (Option.some Jvm.ClassFile.FieldType.int)) ∈ lw_all := lw_g (lw_at lw_m6 76 rfl) rfl
theorem q1376 : (Jvm.Cond.methodLink "java/lang/String" (586 : Nat) ({ cls := "java/lang/StringLatin1", name := "compareTo", desc := "([B[B)I" } : Jvm.MethodName)) ∈ lw_all := lw_g (lw_at lw_m6 77 rfl) rfl
theorem q1489 : (Jvm.Cond.methodLink "java/lang/String" (590 : Nat) ({ cls := "java/lang/StringUTF16", name := "compareTo", desc := "([B[B)I" } : Jvm.MethodName)) ∈ lw_all := lw_g (lw_at lw_m6 190 rfl) rfl
theorem q1495 : (Jvm.Cond.methodLink "java/lang/String" (591 : Nat) ({ cls := "java/lang/StringLatin1", name := "compareToUTF16", desc := "([B[B)I" } : Jvm.MethodName)) ∈ lw_all := lw_g (lw_at lw_m6 196 rfl) rfl
theorem q1506 : (Jvm.Cond.methodLink "java/lang/String" (594 : Nat) ({ cls := "java/lang/StringUTF16", name := "compareToLatin1", desc := "([B[B)I" } : Jvm.MethodName)) ∈ lw_all := lw_g (lw_at lw_m6 207 rfl) rfl
theorem q1532 : (Jvm.Cond.static ({ cls := "java/lang/String", name := "checkOffset", desc := "(II)V" } : Jvm.MethodName)) ∈ lw_all := lw_g (lw_at lw_m6 233 rfl) rfl
theorem q1533 : (Jvm.Cond.code ({ cls := "java/lang/String", name := "checkOffset", desc := "(II)V" } : Jvm.MethodName) prog_68_method_156_code (2 : Nat) (Option.none : Option Jvm.ClassFile.FieldType)) ∈ lw_all := lw_g (lw_at lw_m6 234 rfl) rfl
theorem q3399 : (Jvm.Cond.castable "java/lang/String" "java/lang/Object") ∈ lw_tbl := lw_at lw_m14 180 rfl
theorem in_J11 : ∀ w ∈ wsJ110, w ∈ lw_all := lw_in wsJ110 [680, 682, 684, 686] (by decide +kernel) (by decide +kernel)

/-! jdk/internal/util/ArraysSupport -/
def RJ13 : String := "jdk/internal/util/ArraysSupport"
abbrev cJ13_newLength : ByteArray := prog_99_method_27_code
def yJ13_newLength : MethodName := ⟨RJ13, "newLength", "(III)I"⟩
def dkwJ13_newLength_1 : List UInt8 := [184, 0, 201, 172]
abbrev dktJ13_newLength_1 : List UInt8 := dkwJ13_newLength_1 ++ []
def dkwJ13_newLength_0 : List UInt8 := [26, 27, 28, 184, 0, 194, 96, 62, 3, 29, 162, 0, 11, 29, 18, 200, 163, 0, 5, 29, 172, 26, 27]
abbrev dktJ13_newLength_0 : List UInt8 := dkwJ13_newLength_0 ++ dktJ13_newLength_1
theorem dksJ13_newLength_0 : cJ13_newLength.data.toList.drop 0 = dktJ13_newLength_0 := by decide +kernel
theorem dksJ13_newLength_1 : cJ13_newLength.data.toList.drop 23 = dktJ13_newLength_1 := dk_seg dksJ13_newLength_0 23 rfl rfl
theorem dJ13_newLength_0 : decode cJ13_newLength 0 = .ok (.iload_n 0, 1) := dk_26 (dk_at dksJ13_newLength_0 0 rfl rfl)
theorem dJ13_newLength_1 : decode cJ13_newLength 1 = .ok (.iload_n 1, 1) := dk_27 (dk_at dksJ13_newLength_0 1 rfl rfl)
theorem dJ13_newLength_2 : decode cJ13_newLength 2 = .ok (.iload_n 2, 1) := dk_28 (dk_at dksJ13_newLength_0 2 rfl rfl)
theorem dJ13_newLength_3 : decode cJ13_newLength 3 = .ok (.invokestatic 194, 3) := dk_184 0 194 (dk_at dksJ13_newLength_0 3 rfl rfl)
theorem dJ13_newLength_6 : decode cJ13_newLength 6 = .ok (.iadd, 1) := dk_96 (dk_at dksJ13_newLength_0 6 rfl rfl)
theorem dJ13_newLength_7 : decode cJ13_newLength 7 = .ok (.istore_n 3, 1) := dk_62 (dk_at dksJ13_newLength_0 7 rfl rfl)
theorem dJ13_newLength_8 : decode cJ13_newLength 8 = .ok (.iconst 0, 1) := dk_3 (dk_at dksJ13_newLength_0 8 rfl rfl)
theorem dJ13_newLength_9 : decode cJ13_newLength 9 = .ok (.iload_n 3, 1) := dk_29 (dk_at dksJ13_newLength_0 9 rfl rfl)
theorem dJ13_newLength_10 : decode cJ13_newLength 10 = .ok (.if_icmp .ge 11, 3) := dk_162 0 11 (dk_at dksJ13_newLength_0 10 rfl rfl)
theorem dJ13_newLength_13 : decode cJ13_newLength 13 = .ok (.iload_n 3, 1) := dk_29 (dk_at dksJ13_newLength_0 13 rfl rfl)
theorem dJ13_newLength_14 : decode cJ13_newLength 14 = .ok (.ldc 200, 2) := dk_18 200 (dk_at dksJ13_newLength_0 14 rfl rfl)
theorem dJ13_newLength_16 : decode cJ13_newLength 16 = .ok (.if_icmp .gt 5, 3) := dk_163 0 5 (dk_at dksJ13_newLength_0 16 rfl rfl)
theorem dJ13_newLength_19 : decode cJ13_newLength 19 = .ok (.iload_n 3, 1) := dk_29 (dk_at dksJ13_newLength_0 19 rfl rfl)
theorem dJ13_newLength_20 : decode cJ13_newLength 20 = .ok (.ireturn, 1) := dk_172 (dk_at dksJ13_newLength_0 20 rfl rfl)
theorem dJ13_newLength_21 : decode cJ13_newLength 21 = .ok (.iload_n 0, 1) := dk_26 (dk_at dksJ13_newLength_0 21 rfl rfl)
theorem dJ13_newLength_22 : decode cJ13_newLength 22 = .ok (.iload_n 1, 1) := dk_27 (dk_at dksJ13_newLength_0 22 rfl rfl)
theorem dJ13_newLength_23 : decode cJ13_newLength 23 = .ok (.invokestatic 201, 3) := dk_184 0 201 (dk_at dksJ13_newLength_1 0 rfl rfl)
theorem dJ13_newLength_26 : decode cJ13_newLength 26 = .ok (.ireturn, 1) := dk_172 (dk_at dksJ13_newLength_1 3 rfl rfl)
abbrev cJ13_hugeLength : ByteArray := prog_99_method_28_code
def yJ13_hugeLength : MethodName := ⟨RJ13, "hugeLength", "(II)I"⟩
def dkwJ13_hugeLength_2 : List UInt8 := [191, 28, 18, 200, 163, 0, 6, 18, 200, 172, 28, 172]
abbrev dktJ13_hugeLength_2 : List UInt8 := dkwJ13_hugeLength_2 ++ []
def dkwJ13_hugeLength_1 : List UInt8 := [26, 182, 0, 98, 18, 208, 182, 0, 94, 27, 182, 0, 98, 18, 210, 182, 0, 94, 182, 0, 101, 183, 0, 212]
abbrev dktJ13_hugeLength_1 : List UInt8 := dkwJ13_hugeLength_1 ++ dktJ13_hugeLength_2
def dkwJ13_hugeLength_0 : List UInt8 := [26, 27, 96, 61, 28, 156, 0, 44, 187, 0, 204, 89, 187, 0, 89, 89, 183, 0, 91, 18, 206, 182, 0, 94]
abbrev dktJ13_hugeLength_0 : List UInt8 := dkwJ13_hugeLength_0 ++ dktJ13_hugeLength_1
theorem dksJ13_hugeLength_0 : cJ13_hugeLength.data.toList.drop 0 = dktJ13_hugeLength_0 := by decide +kernel
theorem dksJ13_hugeLength_1 : cJ13_hugeLength.data.toList.drop 24 = dktJ13_hugeLength_1 := dk_seg dksJ13_hugeLength_0 24 rfl rfl
theorem dksJ13_hugeLength_2 : cJ13_hugeLength.data.toList.drop 48 = dktJ13_hugeLength_2 := dk_seg dksJ13_hugeLength_1 24 rfl rfl
theorem dJ13_hugeLength_0 : decode cJ13_hugeLength 0 = .ok (.iload_n 0, 1) := dk_26 (dk_at dksJ13_hugeLength_0 0 rfl rfl)
theorem dJ13_hugeLength_1 : decode cJ13_hugeLength 1 = .ok (.iload_n 1, 1) := dk_27 (dk_at dksJ13_hugeLength_0 1 rfl rfl)
theorem dJ13_hugeLength_2 : decode cJ13_hugeLength 2 = .ok (.iadd, 1) := dk_96 (dk_at dksJ13_hugeLength_0 2 rfl rfl)
theorem dJ13_hugeLength_3 : decode cJ13_hugeLength 3 = .ok (.istore_n 2, 1) := dk_61 (dk_at dksJ13_hugeLength_0 3 rfl rfl)
theorem dJ13_hugeLength_4 : decode cJ13_hugeLength 4 = .ok (.iload_n 2, 1) := dk_28 (dk_at dksJ13_hugeLength_0 4 rfl rfl)
theorem dJ13_hugeLength_5 : decode cJ13_hugeLength 5 = .ok (.ifCond .ge 44, 3) := dk_156 0 44 (dk_at dksJ13_hugeLength_0 5 rfl rfl)
theorem dJ13_hugeLength_8 : decode cJ13_hugeLength 8 = .ok (.new 204, 3) := dk_187 0 204 (dk_at dksJ13_hugeLength_0 8 rfl rfl)
theorem dJ13_hugeLength_11 : decode cJ13_hugeLength 11 = .ok (.dup, 1) := dk_89 (dk_at dksJ13_hugeLength_0 11 rfl rfl)
theorem dJ13_hugeLength_12 : decode cJ13_hugeLength 12 = .ok (.new 89, 3) := dk_187 0 89 (dk_at dksJ13_hugeLength_0 12 rfl rfl)
theorem dJ13_hugeLength_15 : decode cJ13_hugeLength 15 = .ok (.dup, 1) := dk_89 (dk_at dksJ13_hugeLength_0 15 rfl rfl)
theorem dJ13_hugeLength_16 : decode cJ13_hugeLength 16 = .ok (.invokespecial 91, 3) := dk_183 0 91 (dk_at dksJ13_hugeLength_0 16 rfl rfl)
theorem dJ13_hugeLength_19 : decode cJ13_hugeLength 19 = .ok (.ldc 206, 2) := dk_18 206 (dk_at dksJ13_hugeLength_0 19 rfl rfl)
theorem dJ13_hugeLength_21 : decode cJ13_hugeLength 21 = .ok (.invokevirtual 94, 3) := dk_182 0 94 (dk_at dksJ13_hugeLength_0 21 rfl rfl)
theorem dJ13_hugeLength_24 : decode cJ13_hugeLength 24 = .ok (.iload_n 0, 1) := dk_26 (dk_at dksJ13_hugeLength_1 0 rfl rfl)
theorem dJ13_hugeLength_25 : decode cJ13_hugeLength 25 = .ok (.invokevirtual 98, 3) := dk_182 0 98 (dk_at dksJ13_hugeLength_1 1 rfl rfl)
theorem dJ13_hugeLength_28 : decode cJ13_hugeLength 28 = .ok (.ldc 208, 2) := dk_18 208 (dk_at dksJ13_hugeLength_1 4 rfl rfl)
theorem dJ13_hugeLength_30 : decode cJ13_hugeLength 30 = .ok (.invokevirtual 94, 3) := dk_182 0 94 (dk_at dksJ13_hugeLength_1 6 rfl rfl)
theorem dJ13_hugeLength_33 : decode cJ13_hugeLength 33 = .ok (.iload_n 1, 1) := dk_27 (dk_at dksJ13_hugeLength_1 9 rfl rfl)
theorem dJ13_hugeLength_34 : decode cJ13_hugeLength 34 = .ok (.invokevirtual 98, 3) := dk_182 0 98 (dk_at dksJ13_hugeLength_1 10 rfl rfl)
theorem dJ13_hugeLength_37 : decode cJ13_hugeLength 37 = .ok (.ldc 210, 2) := dk_18 210 (dk_at dksJ13_hugeLength_1 13 rfl rfl)
theorem dJ13_hugeLength_39 : decode cJ13_hugeLength 39 = .ok (.invokevirtual 94, 3) := dk_182 0 94 (dk_at dksJ13_hugeLength_1 15 rfl rfl)
theorem dJ13_hugeLength_42 : decode cJ13_hugeLength 42 = .ok (.invokevirtual 101, 3) := dk_182 0 101 (dk_at dksJ13_hugeLength_1 18 rfl rfl)
theorem dJ13_hugeLength_45 : decode cJ13_hugeLength 45 = .ok (.invokespecial 212, 3) := dk_183 0 212 (dk_at dksJ13_hugeLength_1 21 rfl rfl)
theorem dJ13_hugeLength_48 : decode cJ13_hugeLength 48 = .ok (.athrow, 1) := dk_191 (dk_at dksJ13_hugeLength_2 0 rfl rfl)
theorem dJ13_hugeLength_49 : decode cJ13_hugeLength 49 = .ok (.iload_n 2, 1) := dk_28 (dk_at dksJ13_hugeLength_2 1 rfl rfl)
theorem dJ13_hugeLength_50 : decode cJ13_hugeLength 50 = .ok (.ldc 200, 2) := dk_18 200 (dk_at dksJ13_hugeLength_2 2 rfl rfl)
theorem dJ13_hugeLength_52 : decode cJ13_hugeLength 52 = .ok (.if_icmp .gt 6, 3) := dk_163 0 6 (dk_at dksJ13_hugeLength_2 4 rfl rfl)
theorem dJ13_hugeLength_55 : decode cJ13_hugeLength 55 = .ok (.ldc 200, 2) := dk_18 200 (dk_at dksJ13_hugeLength_2 7 rfl rfl)
theorem dJ13_hugeLength_57 : decode cJ13_hugeLength 57 = .ok (.ireturn, 1) := dk_172 (dk_at dksJ13_hugeLength_2 9 rfl rfl)
theorem dJ13_hugeLength_58 : decode cJ13_hugeLength 58 = .ok (.iload_n 2, 1) := dk_28 (dk_at dksJ13_hugeLength_2 10 rfl rfl)
theorem dJ13_hugeLength_59 : decode cJ13_hugeLength 59 = .ok (.ireturn, 1) := dk_172 (dk_at dksJ13_hugeLength_2 11 rfl rfl)
abbrev cJ13_vectorizedHashCode : ByteArray := prog_99_method_4_code
def yJ13_vectorizedHashCode : MethodName := ⟨RJ13, "vectorizedHashCode", "(Ljava/lang/Object;IIII)I"⟩
def dkwJ13_vectorizedHashCode_6 : List UInt8 := [183, 0, 91, 18, 92, 182, 0, 94, 21, 4, 182, 0, 98, 182, 0, 101, 183, 0, 105, 191, 172]
abbrev dktJ13_vectorizedHashCode_6 : List UInt8 := dkwJ13_vectorizedHashCode_6 ++ []
def dkwJ13_vectorizedHashCode_5 : List UInt8 := [167, 0, 44, 29, 42, 192, 0, 82, 27, 28, 184, 0, 84, 167, 0, 31, 187, 0, 87, 89, 187, 0, 89, 89]
abbrev dktJ13_vectorizedHashCode_5 : List UInt8 := dkwJ13_vectorizedHashCode_5 ++ dktJ13_vectorizedHashCode_6
def dkwJ13_vectorizedHashCode_4 : List UInt8 := [29, 42, 192, 0, 60, 27, 28, 184, 0, 75, 167, 0, 57, 29, 42, 192, 0, 77, 27, 28, 184, 0, 79]
abbrev dktJ13_vectorizedHashCode_4 : List UInt8 := dkwJ13_vectorizedHashCode_4 ++ dktJ13_vectorizedHashCode_5
def dkwJ13_vectorizedHashCode_3 : List UInt8 := [192, 0, 60, 27, 28, 184, 0, 66, 167, 0, 83, 29, 42, 192, 0, 69, 27, 28, 184, 0, 71, 167, 0, 70]
abbrev dktJ13_vectorizedHashCode_3 : List UInt8 := dkwJ13_vectorizedHashCode_3 ++ dktJ13_vectorizedHashCode_4
def dkwJ13_vectorizedHashCode_2 : List UInt8 := [29, 42, 192, 0, 60, 27, 28, 184, 0, 62, 167, 0, 103, 42, 193, 0, 60, 153, 0, 16, 29, 42]
abbrev dktJ13_vectorizedHashCode_2 : List UInt8 := dkwJ13_vectorizedHashCode_2 ++ dktJ13_vectorizedHashCode_3
def dkwJ13_vectorizedHashCode_1 : List UInt8 := [170, 0, 0, 0, 0, 127, 0, 0, 0, 4, 0, 0, 0, 10, 0, 0, 0, 42, 0, 0, 0, 55, 0, 0, 0, 127, 0, 0, 0, 127, 0, 0, 0, 88, 0, 0, 0, 101, 0, 0, 0, 114]
abbrev dktJ13_vectorizedHashCode_1 : List UInt8 := dkwJ13_vectorizedHashCode_1 ++ dktJ13_vectorizedHashCode_2
def dkwJ13_vectorizedHashCode_0 : List UInt8 := [21, 4]
abbrev dktJ13_vectorizedHashCode_0 : List UInt8 := dkwJ13_vectorizedHashCode_0 ++ dktJ13_vectorizedHashCode_1
theorem dksJ13_vectorizedHashCode_0 : cJ13_vectorizedHashCode.data.toList.drop 0 = dktJ13_vectorizedHashCode_0 := by decide +kernel
theorem dksJ13_vectorizedHashCode_1 : cJ13_vectorizedHashCode.data.toList.drop 2 = dktJ13_vectorizedHashCode_1 := dk_seg dksJ13_vectorizedHashCode_0 2 rfl rfl
theorem dksJ13_vectorizedHashCode_2 : cJ13_vectorizedHashCode.data.toList.drop 44 = dktJ13_vectorizedHashCode_2 := dk_seg dksJ13_vectorizedHashCode_1 42 rfl rfl
theorem dksJ13_vectorizedHashCode_3 : cJ13_vectorizedHashCode.data.toList.drop 66 = dktJ13_vectorizedHashCode_3 := dk_seg dksJ13_vectorizedHashCode_2 22 rfl rfl
theorem dksJ13_vectorizedHashCode_4 : cJ13_vectorizedHashCode.data.toList.drop 90 = dktJ13_vectorizedHashCode_4 := dk_seg dksJ13_vectorizedHashCode_3 24 rfl rfl
theorem dksJ13_vectorizedHashCode_5 : cJ13_vectorizedHashCode.data.toList.drop 113 = dktJ13_vectorizedHashCode_5 := dk_seg dksJ13_vectorizedHashCode_4 23 rfl rfl
theorem dksJ13_vectorizedHashCode_6 : cJ13_vectorizedHashCode.data.toList.drop 137 = dktJ13_vectorizedHashCode_6 := dk_seg dksJ13_vectorizedHashCode_5 24 rfl rfl
theorem dJ13_vectorizedHashCode_0 : decode cJ13_vectorizedHashCode 0 = .ok (.iload 4, 2) := dk_21 4 (dk_at dksJ13_vectorizedHashCode_0 0 rfl rfl)
theorem dJ13_vectorizedHashCode_2 : decode cJ13_vectorizedHashCode 2 = .ok (.tableswitch 127 4 10 #[42, 55, 127, 127, 88, 101, 114], 42) := by decide +kernel
theorem dJ13_vectorizedHashCode_44 : decode cJ13_vectorizedHashCode 44 = .ok (.iload_n 3, 1) := dk_29 (dk_at dksJ13_vectorizedHashCode_2 0 rfl rfl)
theorem dJ13_vectorizedHashCode_45 : decode cJ13_vectorizedHashCode 45 = .ok (.aload_n 0, 1) := dk_42 (dk_at dksJ13_vectorizedHashCode_2 1 rfl rfl)
theorem dJ13_vectorizedHashCode_46 : decode cJ13_vectorizedHashCode 46 = .ok (.checkcast 60, 3) := dk_192 0 60 (dk_at dksJ13_vectorizedHashCode_2 2 rfl rfl)
theorem dJ13_vectorizedHashCode_49 : decode cJ13_vectorizedHashCode 49 = .ok (.iload_n 1, 1) := dk_27 (dk_at dksJ13_vectorizedHashCode_2 5 rfl rfl)
theorem dJ13_vectorizedHashCode_50 : decode cJ13_vectorizedHashCode 50 = .ok (.iload_n 2, 1) := dk_28 (dk_at dksJ13_vectorizedHashCode_2 6 rfl rfl)
theorem dJ13_vectorizedHashCode_51 : decode cJ13_vectorizedHashCode 51 = .ok (.invokestatic 62, 3) := dk_184 0 62 (dk_at dksJ13_vectorizedHashCode_2 7 rfl rfl)
theorem dJ13_vectorizedHashCode_54 : decode cJ13_vectorizedHashCode 54 = .ok (.goto 103, 3) := dk_167 0 103 (dk_at dksJ13_vectorizedHashCode_2 10 rfl rfl)
theorem dJ13_vectorizedHashCode_57 : decode cJ13_vectorizedHashCode 57 = .ok (.aload_n 0, 1) := dk_42 (dk_at dksJ13_vectorizedHashCode_2 13 rfl rfl)
theorem dJ13_vectorizedHashCode_58 : decode cJ13_vectorizedHashCode 58 = .ok (.instanceof 60, 3) := dk_193 0 60 (dk_at dksJ13_vectorizedHashCode_2 14 rfl rfl)
theorem dJ13_vectorizedHashCode_61 : decode cJ13_vectorizedHashCode 61 = .ok (.ifCond .eq 16, 3) := dk_153 0 16 (dk_at dksJ13_vectorizedHashCode_2 17 rfl rfl)
theorem dJ13_vectorizedHashCode_64 : decode cJ13_vectorizedHashCode 64 = .ok (.iload_n 3, 1) := dk_29 (dk_at dksJ13_vectorizedHashCode_2 20 rfl rfl)
theorem dJ13_vectorizedHashCode_65 : decode cJ13_vectorizedHashCode 65 = .ok (.aload_n 0, 1) := dk_42 (dk_at dksJ13_vectorizedHashCode_2 21 rfl rfl)
theorem dJ13_vectorizedHashCode_66 : decode cJ13_vectorizedHashCode 66 = .ok (.checkcast 60, 3) := dk_192 0 60 (dk_at dksJ13_vectorizedHashCode_3 0 rfl rfl)
theorem dJ13_vectorizedHashCode_69 : decode cJ13_vectorizedHashCode 69 = .ok (.iload_n 1, 1) := dk_27 (dk_at dksJ13_vectorizedHashCode_3 3 rfl rfl)
theorem dJ13_vectorizedHashCode_70 : decode cJ13_vectorizedHashCode 70 = .ok (.iload_n 2, 1) := dk_28 (dk_at dksJ13_vectorizedHashCode_3 4 rfl rfl)
theorem dJ13_vectorizedHashCode_71 : decode cJ13_vectorizedHashCode 71 = .ok (.invokestatic 66, 3) := dk_184 0 66 (dk_at dksJ13_vectorizedHashCode_3 5 rfl rfl)
theorem dJ13_vectorizedHashCode_74 : decode cJ13_vectorizedHashCode 74 = .ok (.goto 83, 3) := dk_167 0 83 (dk_at dksJ13_vectorizedHashCode_3 8 rfl rfl)
theorem dJ13_vectorizedHashCode_77 : decode cJ13_vectorizedHashCode 77 = .ok (.iload_n 3, 1) := dk_29 (dk_at dksJ13_vectorizedHashCode_3 11 rfl rfl)
theorem dJ13_vectorizedHashCode_78 : decode cJ13_vectorizedHashCode 78 = .ok (.aload_n 0, 1) := dk_42 (dk_at dksJ13_vectorizedHashCode_3 12 rfl rfl)
theorem dJ13_vectorizedHashCode_79 : decode cJ13_vectorizedHashCode 79 = .ok (.checkcast 69, 3) := dk_192 0 69 (dk_at dksJ13_vectorizedHashCode_3 13 rfl rfl)
theorem dJ13_vectorizedHashCode_82 : decode cJ13_vectorizedHashCode 82 = .ok (.iload_n 1, 1) := dk_27 (dk_at dksJ13_vectorizedHashCode_3 16 rfl rfl)
theorem dJ13_vectorizedHashCode_83 : decode cJ13_vectorizedHashCode 83 = .ok (.iload_n 2, 1) := dk_28 (dk_at dksJ13_vectorizedHashCode_3 17 rfl rfl)
theorem dJ13_vectorizedHashCode_84 : decode cJ13_vectorizedHashCode 84 = .ok (.invokestatic 71, 3) := dk_184 0 71 (dk_at dksJ13_vectorizedHashCode_3 18 rfl rfl)
theorem dJ13_vectorizedHashCode_87 : decode cJ13_vectorizedHashCode 87 = .ok (.goto 70, 3) := dk_167 0 70 (dk_at dksJ13_vectorizedHashCode_3 21 rfl rfl)
theorem dJ13_vectorizedHashCode_90 : decode cJ13_vectorizedHashCode 90 = .ok (.iload_n 3, 1) := dk_29 (dk_at dksJ13_vectorizedHashCode_4 0 rfl rfl)
theorem dJ13_vectorizedHashCode_91 : decode cJ13_vectorizedHashCode 91 = .ok (.aload_n 0, 1) := dk_42 (dk_at dksJ13_vectorizedHashCode_4 1 rfl rfl)
theorem dJ13_vectorizedHashCode_92 : decode cJ13_vectorizedHashCode 92 = .ok (.checkcast 60, 3) := dk_192 0 60 (dk_at dksJ13_vectorizedHashCode_4 2 rfl rfl)
theorem dJ13_vectorizedHashCode_95 : decode cJ13_vectorizedHashCode 95 = .ok (.iload_n 1, 1) := dk_27 (dk_at dksJ13_vectorizedHashCode_4 5 rfl rfl)
theorem dJ13_vectorizedHashCode_96 : decode cJ13_vectorizedHashCode 96 = .ok (.iload_n 2, 1) := dk_28 (dk_at dksJ13_vectorizedHashCode_4 6 rfl rfl)
theorem dJ13_vectorizedHashCode_97 : decode cJ13_vectorizedHashCode 97 = .ok (.invokestatic 75, 3) := dk_184 0 75 (dk_at dksJ13_vectorizedHashCode_4 7 rfl rfl)
theorem dJ13_vectorizedHashCode_100 : decode cJ13_vectorizedHashCode 100 = .ok (.goto 57, 3) := dk_167 0 57 (dk_at dksJ13_vectorizedHashCode_4 10 rfl rfl)
theorem dJ13_vectorizedHashCode_103 : decode cJ13_vectorizedHashCode 103 = .ok (.iload_n 3, 1) := dk_29 (dk_at dksJ13_vectorizedHashCode_4 13 rfl rfl)
theorem dJ13_vectorizedHashCode_104 : decode cJ13_vectorizedHashCode 104 = .ok (.aload_n 0, 1) := dk_42 (dk_at dksJ13_vectorizedHashCode_4 14 rfl rfl)
theorem dJ13_vectorizedHashCode_105 : decode cJ13_vectorizedHashCode 105 = .ok (.checkcast 77, 3) := dk_192 0 77 (dk_at dksJ13_vectorizedHashCode_4 15 rfl rfl)
theorem dJ13_vectorizedHashCode_108 : decode cJ13_vectorizedHashCode 108 = .ok (.iload_n 1, 1) := dk_27 (dk_at dksJ13_vectorizedHashCode_4 18 rfl rfl)
theorem dJ13_vectorizedHashCode_109 : decode cJ13_vectorizedHashCode 109 = .ok (.iload_n 2, 1) := dk_28 (dk_at dksJ13_vectorizedHashCode_4 19 rfl rfl)
theorem dJ13_vectorizedHashCode_110 : decode cJ13_vectorizedHashCode 110 = .ok (.invokestatic 79, 3) := dk_184 0 79 (dk_at dksJ13_vectorizedHashCode_4 20 rfl rfl)
theorem dJ13_vectorizedHashCode_113 : decode cJ13_vectorizedHashCode 113 = .ok (.goto 44, 3) := dk_167 0 44 (dk_at dksJ13_vectorizedHashCode_5 0 rfl rfl)
theorem dJ13_vectorizedHashCode_116 : decode cJ13_vectorizedHashCode 116 = .ok (.iload_n 3, 1) := dk_29 (dk_at dksJ13_vectorizedHashCode_5 3 rfl rfl)
theorem dJ13_vectorizedHashCode_117 : decode cJ13_vectorizedHashCode 117 = .ok (.aload_n 0, 1) := dk_42 (dk_at dksJ13_vectorizedHashCode_5 4 rfl rfl)
theorem dJ13_vectorizedHashCode_118 : decode cJ13_vectorizedHashCode 118 = .ok (.checkcast 82, 3) := dk_192 0 82 (dk_at dksJ13_vectorizedHashCode_5 5 rfl rfl)
theorem dJ13_vectorizedHashCode_121 : decode cJ13_vectorizedHashCode 121 = .ok (.iload_n 1, 1) := dk_27 (dk_at dksJ13_vectorizedHashCode_5 8 rfl rfl)
theorem dJ13_vectorizedHashCode_122 : decode cJ13_vectorizedHashCode 122 = .ok (.iload_n 2, 1) := dk_28 (dk_at dksJ13_vectorizedHashCode_5 9 rfl rfl)
theorem dJ13_vectorizedHashCode_123 : decode cJ13_vectorizedHashCode 123 = .ok (.invokestatic 84, 3) := dk_184 0 84 (dk_at dksJ13_vectorizedHashCode_5 10 rfl rfl)
theorem dJ13_vectorizedHashCode_126 : decode cJ13_vectorizedHashCode 126 = .ok (.goto 31, 3) := dk_167 0 31 (dk_at dksJ13_vectorizedHashCode_5 13 rfl rfl)
theorem dJ13_vectorizedHashCode_129 : decode cJ13_vectorizedHashCode 129 = .ok (.new 87, 3) := dk_187 0 87 (dk_at dksJ13_vectorizedHashCode_5 16 rfl rfl)
theorem dJ13_vectorizedHashCode_132 : decode cJ13_vectorizedHashCode 132 = .ok (.dup, 1) := dk_89 (dk_at dksJ13_vectorizedHashCode_5 19 rfl rfl)
theorem dJ13_vectorizedHashCode_133 : decode cJ13_vectorizedHashCode 133 = .ok (.new 89, 3) := dk_187 0 89 (dk_at dksJ13_vectorizedHashCode_5 20 rfl rfl)
theorem dJ13_vectorizedHashCode_136 : decode cJ13_vectorizedHashCode 136 = .ok (.dup, 1) := dk_89 (dk_at dksJ13_vectorizedHashCode_5 23 rfl rfl)
theorem dJ13_vectorizedHashCode_137 : decode cJ13_vectorizedHashCode 137 = .ok (.invokespecial 91, 3) := dk_183 0 91 (dk_at dksJ13_vectorizedHashCode_6 0 rfl rfl)
theorem dJ13_vectorizedHashCode_140 : decode cJ13_vectorizedHashCode 140 = .ok (.ldc 92, 2) := dk_18 92 (dk_at dksJ13_vectorizedHashCode_6 3 rfl rfl)
theorem dJ13_vectorizedHashCode_142 : decode cJ13_vectorizedHashCode 142 = .ok (.invokevirtual 94, 3) := dk_182 0 94 (dk_at dksJ13_vectorizedHashCode_6 5 rfl rfl)
theorem dJ13_vectorizedHashCode_145 : decode cJ13_vectorizedHashCode 145 = .ok (.iload 4, 2) := dk_21 4 (dk_at dksJ13_vectorizedHashCode_6 8 rfl rfl)
theorem dJ13_vectorizedHashCode_147 : decode cJ13_vectorizedHashCode 147 = .ok (.invokevirtual 98, 3) := dk_182 0 98 (dk_at dksJ13_vectorizedHashCode_6 10 rfl rfl)
theorem dJ13_vectorizedHashCode_150 : decode cJ13_vectorizedHashCode 150 = .ok (.invokevirtual 101, 3) := dk_182 0 101 (dk_at dksJ13_vectorizedHashCode_6 13 rfl rfl)
theorem dJ13_vectorizedHashCode_153 : decode cJ13_vectorizedHashCode 153 = .ok (.invokespecial 105, 3) := dk_183 0 105 (dk_at dksJ13_vectorizedHashCode_6 16 rfl rfl)
theorem dJ13_vectorizedHashCode_156 : decode cJ13_vectorizedHashCode 156 = .ok (.athrow, 1) := dk_191 (dk_at dksJ13_vectorizedHashCode_6 19 rfl rfl)
theorem dJ13_vectorizedHashCode_157 : decode cJ13_vectorizedHashCode 157 = .ok (.ireturn, 1) := dk_172 (dk_at dksJ13_vectorizedHashCode_6 20 rfl rfl)
abbrev cJ13_signedHashCode : ByteArray := prog_99_method_5_code
def yJ13_signedHashCode : MethodName := ⟨RJ13, "signedHashCode", "(I[BII)I"⟩
def dkwJ13_signedHashCode_1 : List UInt8 := [17, 0, 255, 126, 96, 59, 132, 5, 1, 167, 255, 232, 26, 172]
abbrev dktJ13_signedHashCode_1 : List UInt8 := dkwJ13_signedHashCode_1 ++ []
def dkwJ13_signedHashCode_0 : List UInt8 := [28, 29, 96, 54, 4, 28, 54, 5, 21, 5, 21, 4, 162, 0, 23, 16, 31, 26, 104, 43, 21, 5, 51]
abbrev dktJ13_signedHashCode_0 : List UInt8 := dkwJ13_signedHashCode_0 ++ dktJ13_signedHashCode_1
theorem dksJ13_signedHashCode_0 : cJ13_signedHashCode.data.toList.drop 0 = dktJ13_signedHashCode_0 := by decide +kernel
theorem dksJ13_signedHashCode_1 : cJ13_signedHashCode.data.toList.drop 23 = dktJ13_signedHashCode_1 := dk_seg dksJ13_signedHashCode_0 23 rfl rfl
theorem dJ13_signedHashCode_0 : decode cJ13_signedHashCode 0 = .ok (.iload_n 2, 1) := dk_28 (dk_at dksJ13_signedHashCode_0 0 rfl rfl)
theorem dJ13_signedHashCode_1 : decode cJ13_signedHashCode 1 = .ok (.iload_n 3, 1) := dk_29 (dk_at dksJ13_signedHashCode_0 1 rfl rfl)
theorem dJ13_signedHashCode_2 : decode cJ13_signedHashCode 2 = .ok (.iadd, 1) := dk_96 (dk_at dksJ13_signedHashCode_0 2 rfl rfl)
theorem dJ13_signedHashCode_3 : decode cJ13_signedHashCode 3 = .ok (.istore 4, 2) := dk_54 4 (dk_at dksJ13_signedHashCode_0 3 rfl rfl)
theorem dJ13_signedHashCode_5 : decode cJ13_signedHashCode 5 = .ok (.iload_n 2, 1) := dk_28 (dk_at dksJ13_signedHashCode_0 5 rfl rfl)
theorem dJ13_signedHashCode_6 : decode cJ13_signedHashCode 6 = .ok (.istore 5, 2) := dk_54 5 (dk_at dksJ13_signedHashCode_0 6 rfl rfl)
theorem dJ13_signedHashCode_8 : decode cJ13_signedHashCode 8 = .ok (.iload 5, 2) := dk_21 5 (dk_at dksJ13_signedHashCode_0 8 rfl rfl)
theorem dJ13_signedHashCode_10 : decode cJ13_signedHashCode 10 = .ok (.iload 4, 2) := dk_21 4 (dk_at dksJ13_signedHashCode_0 10 rfl rfl)
theorem dJ13_signedHashCode_12 : decode cJ13_signedHashCode 12 = .ok (.if_icmp .ge 23, 3) := dk_162 0 23 (dk_at dksJ13_signedHashCode_0 12 rfl rfl)
theorem dJ13_signedHashCode_15 : decode cJ13_signedHashCode 15 = .ok (.bipush 31, 2) := dk_16 31 (dk_at dksJ13_signedHashCode_0 15 rfl rfl)
theorem dJ13_signedHashCode_17 : decode cJ13_signedHashCode 17 = .ok (.iload_n 0, 1) := dk_26 (dk_at dksJ13_signedHashCode_0 17 rfl rfl)
theorem dJ13_signedHashCode_18 : decode cJ13_signedHashCode 18 = .ok (.imul, 1) := dk_104 (dk_at dksJ13_signedHashCode_0 18 rfl rfl)
theorem dJ13_signedHashCode_19 : decode cJ13_signedHashCode 19 = .ok (.aload_n 1, 1) := dk_43 (dk_at dksJ13_signedHashCode_0 19 rfl rfl)
theorem dJ13_signedHashCode_20 : decode cJ13_signedHashCode 20 = .ok (.iload 5, 2) := dk_21 5 (dk_at dksJ13_signedHashCode_0 20 rfl rfl)
theorem dJ13_signedHashCode_22 : decode cJ13_signedHashCode 22 = .ok (.baload, 1) := dk_51 (dk_at dksJ13_signedHashCode_0 22 rfl rfl)
theorem dJ13_signedHashCode_23 : decode cJ13_signedHashCode 23 = .ok (.sipush 255, 3) := dk_17 0 255 (dk_at dksJ13_signedHashCode_1 0 rfl rfl)
theorem dJ13_signedHashCode_26 : decode cJ13_signedHashCode 26 = .ok (.iand, 1) := dk_126 (dk_at dksJ13_signedHashCode_1 3 rfl rfl)
theorem dJ13_signedHashCode_27 : decode cJ13_signedHashCode 27 = .ok (.iadd, 1) := dk_96 (dk_at dksJ13_signedHashCode_1 4 rfl rfl)
theorem dJ13_signedHashCode_28 : decode cJ13_signedHashCode 28 = .ok (.istore_n 0, 1) := dk_59 (dk_at dksJ13_signedHashCode_1 5 rfl rfl)
theorem dJ13_signedHashCode_29 : decode cJ13_signedHashCode 29 = .ok (.iinc 5 1, 3) := dk_132 5 1 (dk_at dksJ13_signedHashCode_1 6 rfl rfl)
theorem dJ13_signedHashCode_32 : decode cJ13_signedHashCode 32 = .ok (.goto (-24), 3) := dk_167 255 232 (dk_at dksJ13_signedHashCode_1 9 rfl rfl)
theorem dJ13_signedHashCode_35 : decode cJ13_signedHashCode 35 = .ok (.iload_n 0, 1) := dk_26 (dk_at dksJ13_signedHashCode_1 12 rfl rfl)
theorem dJ13_signedHashCode_36 : decode cJ13_signedHashCode 36 = .ok (.ireturn, 1) := dk_172 (dk_at dksJ13_signedHashCode_1 13 rfl rfl)
abbrev cJ13_utf16hashCode : ByteArray := prog_99_method_10_code
def yJ13_utf16hashCode : MethodName := ⟨RJ13, "utf16hashCode", "(I[BII)I"⟩
def dkwJ13_utf16hashCode_1 : List UInt8 := [21, 5, 185, 0, 110, 3, 0, 96, 59, 132, 5, 1, 167, 255, 229, 26, 172]
abbrev dktJ13_utf16hashCode_1 : List UInt8 := dkwJ13_utf16hashCode_1 ++ []
def dkwJ13_utf16hashCode_0 : List UInt8 := [28, 29, 96, 54, 4, 28, 54, 5, 21, 5, 21, 4, 162, 0, 26, 16, 31, 26, 104, 178, 0, 106, 43]
abbrev dktJ13_utf16hashCode_0 : List UInt8 := dkwJ13_utf16hashCode_0 ++ dktJ13_utf16hashCode_1
theorem dksJ13_utf16hashCode_0 : cJ13_utf16hashCode.data.toList.drop 0 = dktJ13_utf16hashCode_0 := by decide +kernel
theorem dksJ13_utf16hashCode_1 : cJ13_utf16hashCode.data.toList.drop 23 = dktJ13_utf16hashCode_1 := dk_seg dksJ13_utf16hashCode_0 23 rfl rfl
theorem dJ13_utf16hashCode_0 : decode cJ13_utf16hashCode 0 = .ok (.iload_n 2, 1) := dk_28 (dk_at dksJ13_utf16hashCode_0 0 rfl rfl)
theorem dJ13_utf16hashCode_1 : decode cJ13_utf16hashCode 1 = .ok (.iload_n 3, 1) := dk_29 (dk_at dksJ13_utf16hashCode_0 1 rfl rfl)
theorem dJ13_utf16hashCode_2 : decode cJ13_utf16hashCode 2 = .ok (.iadd, 1) := dk_96 (dk_at dksJ13_utf16hashCode_0 2 rfl rfl)
theorem dJ13_utf16hashCode_3 : decode cJ13_utf16hashCode 3 = .ok (.istore 4, 2) := dk_54 4 (dk_at dksJ13_utf16hashCode_0 3 rfl rfl)
theorem dJ13_utf16hashCode_5 : decode cJ13_utf16hashCode 5 = .ok (.iload_n 2, 1) := dk_28 (dk_at dksJ13_utf16hashCode_0 5 rfl rfl)
theorem dJ13_utf16hashCode_6 : decode cJ13_utf16hashCode 6 = .ok (.istore 5, 2) := dk_54 5 (dk_at dksJ13_utf16hashCode_0 6 rfl rfl)
theorem dJ13_utf16hashCode_8 : decode cJ13_utf16hashCode 8 = .ok (.iload 5, 2) := dk_21 5 (dk_at dksJ13_utf16hashCode_0 8 rfl rfl)
theorem dJ13_utf16hashCode_10 : decode cJ13_utf16hashCode 10 = .ok (.iload 4, 2) := dk_21 4 (dk_at dksJ13_utf16hashCode_0 10 rfl rfl)
theorem dJ13_utf16hashCode_12 : decode cJ13_utf16hashCode 12 = .ok (.if_icmp .ge 26, 3) := dk_162 0 26 (dk_at dksJ13_utf16hashCode_0 12 rfl rfl)
theorem dJ13_utf16hashCode_15 : decode cJ13_utf16hashCode 15 = .ok (.bipush 31, 2) := dk_16 31 (dk_at dksJ13_utf16hashCode_0 15 rfl rfl)
theorem dJ13_utf16hashCode_17 : decode cJ13_utf16hashCode 17 = .ok (.iload_n 0, 1) := dk_26 (dk_at dksJ13_utf16hashCode_0 17 rfl rfl)
theorem dJ13_utf16hashCode_18 : decode cJ13_utf16hashCode 18 = .ok (.imul, 1) := dk_104 (dk_at dksJ13_utf16hashCode_0 18 rfl rfl)
theorem dJ13_utf16hashCode_19 : decode cJ13_utf16hashCode 19 = .ok (.getstatic 106, 3) := dk_178 0 106 (dk_at dksJ13_utf16hashCode_0 19 rfl rfl)
theorem dJ13_utf16hashCode_22 : decode cJ13_utf16hashCode 22 = .ok (.aload_n 1, 1) := dk_43 (dk_at dksJ13_utf16hashCode_0 22 rfl rfl)
theorem dJ13_utf16hashCode_23 : decode cJ13_utf16hashCode 23 = .ok (.iload 5, 2) := dk_21 5 (dk_at dksJ13_utf16hashCode_1 0 rfl rfl)
theorem dJ13_utf16hashCode_25 : decode cJ13_utf16hashCode 25 = .ok (.invokeinterface 110 3, 5) := by decide +kernel
theorem dJ13_utf16hashCode_30 : decode cJ13_utf16hashCode 30 = .ok (.iadd, 1) := dk_96 (dk_at dksJ13_utf16hashCode_1 7 rfl rfl)
theorem dJ13_utf16hashCode_31 : decode cJ13_utf16hashCode 31 = .ok (.istore_n 0, 1) := dk_59 (dk_at dksJ13_utf16hashCode_1 8 rfl rfl)
theorem dJ13_utf16hashCode_32 : decode cJ13_utf16hashCode 32 = .ok (.iinc 5 1, 3) := dk_132 5 1 (dk_at dksJ13_utf16hashCode_1 9 rfl rfl)
theorem dJ13_utf16hashCode_35 : decode cJ13_utf16hashCode 35 = .ok (.goto (-27), 3) := dk_167 255 229 (dk_at dksJ13_utf16hashCode_1 12 rfl rfl)
theorem dJ13_utf16hashCode_38 : decode cJ13_utf16hashCode 38 = .ok (.iload_n 0, 1) := dk_26 (dk_at dksJ13_utf16hashCode_1 15 rfl rfl)
theorem dJ13_utf16hashCode_39 : decode cJ13_utf16hashCode 39 = .ok (.ireturn, 1) := dk_172 (dk_at dksJ13_utf16hashCode_1 16 rfl rfl)
abbrev cJ13_hashCode : ByteArray := prog_99_method_7_code
def yJ13_hashCode : MethodName := ⟨RJ13, "hashCode", "(I[CII)I"⟩
def dkwJ13_hashCode_1 : List UInt8 := [59, 132, 5, 1, 167, 255, 236, 26, 172]
abbrev dktJ13_hashCode_1 : List UInt8 := dkwJ13_hashCode_1 ++ []
def dkwJ13_hashCode_0 : List UInt8 := [28, 29, 96, 54, 4, 28, 54, 5, 21, 5, 21, 4, 162, 0, 19, 16, 31, 26, 104, 43, 21, 5, 52, 96]
abbrev dktJ13_hashCode_0 : List UInt8 := dkwJ13_hashCode_0 ++ dktJ13_hashCode_1
theorem dksJ13_hashCode_0 : cJ13_hashCode.data.toList.drop 0 = dktJ13_hashCode_0 := by decide +kernel
theorem dksJ13_hashCode_1 : cJ13_hashCode.data.toList.drop 24 = dktJ13_hashCode_1 := dk_seg dksJ13_hashCode_0 24 rfl rfl
theorem dJ13_hashCode_0 : decode cJ13_hashCode 0 = .ok (.iload_n 2, 1) := dk_28 (dk_at dksJ13_hashCode_0 0 rfl rfl)
theorem dJ13_hashCode_1 : decode cJ13_hashCode 1 = .ok (.iload_n 3, 1) := dk_29 (dk_at dksJ13_hashCode_0 1 rfl rfl)
theorem dJ13_hashCode_2 : decode cJ13_hashCode 2 = .ok (.iadd, 1) := dk_96 (dk_at dksJ13_hashCode_0 2 rfl rfl)
theorem dJ13_hashCode_3 : decode cJ13_hashCode 3 = .ok (.istore 4, 2) := dk_54 4 (dk_at dksJ13_hashCode_0 3 rfl rfl)
theorem dJ13_hashCode_5 : decode cJ13_hashCode 5 = .ok (.iload_n 2, 1) := dk_28 (dk_at dksJ13_hashCode_0 5 rfl rfl)
theorem dJ13_hashCode_6 : decode cJ13_hashCode 6 = .ok (.istore 5, 2) := dk_54 5 (dk_at dksJ13_hashCode_0 6 rfl rfl)
theorem dJ13_hashCode_8 : decode cJ13_hashCode 8 = .ok (.iload 5, 2) := dk_21 5 (dk_at dksJ13_hashCode_0 8 rfl rfl)
theorem dJ13_hashCode_10 : decode cJ13_hashCode 10 = .ok (.iload 4, 2) := dk_21 4 (dk_at dksJ13_hashCode_0 10 rfl rfl)
theorem dJ13_hashCode_12 : decode cJ13_hashCode 12 = .ok (.if_icmp .ge 19, 3) := dk_162 0 19 (dk_at dksJ13_hashCode_0 12 rfl rfl)
theorem dJ13_hashCode_15 : decode cJ13_hashCode 15 = .ok (.bipush 31, 2) := dk_16 31 (dk_at dksJ13_hashCode_0 15 rfl rfl)
theorem dJ13_hashCode_17 : decode cJ13_hashCode 17 = .ok (.iload_n 0, 1) := dk_26 (dk_at dksJ13_hashCode_0 17 rfl rfl)
theorem dJ13_hashCode_18 : decode cJ13_hashCode 18 = .ok (.imul, 1) := dk_104 (dk_at dksJ13_hashCode_0 18 rfl rfl)
theorem dJ13_hashCode_19 : decode cJ13_hashCode 19 = .ok (.aload_n 1, 1) := dk_43 (dk_at dksJ13_hashCode_0 19 rfl rfl)
theorem dJ13_hashCode_20 : decode cJ13_hashCode 20 = .ok (.iload 5, 2) := dk_21 5 (dk_at dksJ13_hashCode_0 20 rfl rfl)
theorem dJ13_hashCode_22 : decode cJ13_hashCode 22 = .ok (.caload, 1) := dk_52 (dk_at dksJ13_hashCode_0 22 rfl rfl)
theorem dJ13_hashCode_23 : decode cJ13_hashCode 23 = .ok (.iadd, 1) := dk_96 (dk_at dksJ13_hashCode_0 23 rfl rfl)
theorem dJ13_hashCode_24 : decode cJ13_hashCode 24 = .ok (.istore_n 0, 1) := dk_59 (dk_at dksJ13_hashCode_1 0 rfl rfl)
theorem dJ13_hashCode_25 : decode cJ13_hashCode 25 = .ok (.iinc 5 1, 3) := dk_132 5 1 (dk_at dksJ13_hashCode_1 1 rfl rfl)
theorem dJ13_hashCode_28 : decode cJ13_hashCode 28 = .ok (.goto (-20), 3) := dk_167 255 236 (dk_at dksJ13_hashCode_1 4 rfl rfl)
theorem dJ13_hashCode_31 : decode cJ13_hashCode 31 = .ok (.iload_n 0, 1) := dk_26 (dk_at dksJ13_hashCode_1 7 rfl rfl)
theorem dJ13_hashCode_32 : decode cJ13_hashCode 32 = .ok (.ireturn, 1) := dk_172 (dk_at dksJ13_hashCode_1 8 rfl rfl)
abbrev cJ13_hashCode_2 : ByteArray := prog_99_method_6_code
def yJ13_hashCode_2 : MethodName := ⟨RJ13, "hashCode", "(I[BII)I"⟩
def dkwJ13_hashCode_2_1 : List UInt8 := [59, 132, 5, 1, 167, 255, 236, 26, 172]
abbrev dktJ13_hashCode_2_1 : List UInt8 := dkwJ13_hashCode_2_1 ++ []
def dkwJ13_hashCode_2_0 : List UInt8 := [28, 29, 96, 54, 4, 28, 54, 5, 21, 5, 21, 4, 162, 0, 19, 16, 31, 26, 104, 43, 21, 5, 51, 96]
abbrev dktJ13_hashCode_2_0 : List UInt8 := dkwJ13_hashCode_2_0 ++ dktJ13_hashCode_2_1
theorem dksJ13_hashCode_2_0 : cJ13_hashCode_2.data.toList.drop 0 = dktJ13_hashCode_2_0 := by decide +kernel
theorem dksJ13_hashCode_2_1 : cJ13_hashCode_2.data.toList.drop 24 = dktJ13_hashCode_2_1 := dk_seg dksJ13_hashCode_2_0 24 rfl rfl
theorem dJ13_hashCode_2_0 : decode cJ13_hashCode_2 0 = .ok (.iload_n 2, 1) := dk_28 (dk_at dksJ13_hashCode_2_0 0 rfl rfl)
theorem dJ13_hashCode_2_1 : decode cJ13_hashCode_2 1 = .ok (.iload_n 3, 1) := dk_29 (dk_at dksJ13_hashCode_2_0 1 rfl rfl)
theorem dJ13_hashCode_2_2 : decode cJ13_hashCode_2 2 = .ok (.iadd, 1) := dk_96 (dk_at dksJ13_hashCode_2_0 2 rfl rfl)
theorem dJ13_hashCode_2_3 : decode cJ13_hashCode_2 3 = .ok (.istore 4, 2) := dk_54 4 (dk_at dksJ13_hashCode_2_0 3 rfl rfl)
theorem dJ13_hashCode_2_5 : decode cJ13_hashCode_2 5 = .ok (.iload_n 2, 1) := dk_28 (dk_at dksJ13_hashCode_2_0 5 rfl rfl)
theorem dJ13_hashCode_2_6 : decode cJ13_hashCode_2 6 = .ok (.istore 5, 2) := dk_54 5 (dk_at dksJ13_hashCode_2_0 6 rfl rfl)
theorem dJ13_hashCode_2_8 : decode cJ13_hashCode_2 8 = .ok (.iload 5, 2) := dk_21 5 (dk_at dksJ13_hashCode_2_0 8 rfl rfl)
theorem dJ13_hashCode_2_10 : decode cJ13_hashCode_2 10 = .ok (.iload 4, 2) := dk_21 4 (dk_at dksJ13_hashCode_2_0 10 rfl rfl)
theorem dJ13_hashCode_2_12 : decode cJ13_hashCode_2 12 = .ok (.if_icmp .ge 19, 3) := dk_162 0 19 (dk_at dksJ13_hashCode_2_0 12 rfl rfl)
theorem dJ13_hashCode_2_15 : decode cJ13_hashCode_2 15 = .ok (.bipush 31, 2) := dk_16 31 (dk_at dksJ13_hashCode_2_0 15 rfl rfl)
theorem dJ13_hashCode_2_17 : decode cJ13_hashCode_2 17 = .ok (.iload_n 0, 1) := dk_26 (dk_at dksJ13_hashCode_2_0 17 rfl rfl)
theorem dJ13_hashCode_2_18 : decode cJ13_hashCode_2 18 = .ok (.imul, 1) := dk_104 (dk_at dksJ13_hashCode_2_0 18 rfl rfl)
theorem dJ13_hashCode_2_19 : decode cJ13_hashCode_2 19 = .ok (.aload_n 1, 1) := dk_43 (dk_at dksJ13_hashCode_2_0 19 rfl rfl)
theorem dJ13_hashCode_2_20 : decode cJ13_hashCode_2 20 = .ok (.iload 5, 2) := dk_21 5 (dk_at dksJ13_hashCode_2_0 20 rfl rfl)
theorem dJ13_hashCode_2_22 : decode cJ13_hashCode_2 22 = .ok (.baload, 1) := dk_51 (dk_at dksJ13_hashCode_2_0 22 rfl rfl)
theorem dJ13_hashCode_2_23 : decode cJ13_hashCode_2 23 = .ok (.iadd, 1) := dk_96 (dk_at dksJ13_hashCode_2_0 23 rfl rfl)
theorem dJ13_hashCode_2_24 : decode cJ13_hashCode_2 24 = .ok (.istore_n 0, 1) := dk_59 (dk_at dksJ13_hashCode_2_1 0 rfl rfl)
theorem dJ13_hashCode_2_25 : decode cJ13_hashCode_2 25 = .ok (.iinc 5 1, 3) := dk_132 5 1 (dk_at dksJ13_hashCode_2_1 1 rfl rfl)
theorem dJ13_hashCode_2_28 : decode cJ13_hashCode_2 28 = .ok (.goto (-20), 3) := dk_167 255 236 (dk_at dksJ13_hashCode_2_1 4 rfl rfl)
theorem dJ13_hashCode_2_31 : decode cJ13_hashCode_2 31 = .ok (.iload_n 0, 1) := dk_26 (dk_at dksJ13_hashCode_2_1 7 rfl rfl)
theorem dJ13_hashCode_2_32 : decode cJ13_hashCode_2 32 = .ok (.ireturn, 1) := dk_172 (dk_at dksJ13_hashCode_2_1 8 rfl rfl)
abbrev cJ13_hashCode_3 : ByteArray := prog_99_method_8_code
def yJ13_hashCode_3 : MethodName := ⟨RJ13, "hashCode", "(I[SII)I"⟩
def dkwJ13_hashCode_3_1 : List UInt8 := [59, 132, 5, 1, 167, 255, 236, 26, 172]
abbrev dktJ13_hashCode_3_1 : List UInt8 := dkwJ13_hashCode_3_1 ++ []
def dkwJ13_hashCode_3_0 : List UInt8 := [28, 29, 96, 54, 4, 28, 54, 5, 21, 5, 21, 4, 162, 0, 19, 16, 31, 26, 104, 43, 21, 5, 53, 96]
abbrev dktJ13_hashCode_3_0 : List UInt8 := dkwJ13_hashCode_3_0 ++ dktJ13_hashCode_3_1
theorem dksJ13_hashCode_3_0 : cJ13_hashCode_3.data.toList.drop 0 = dktJ13_hashCode_3_0 := by decide +kernel
theorem dksJ13_hashCode_3_1 : cJ13_hashCode_3.data.toList.drop 24 = dktJ13_hashCode_3_1 := dk_seg dksJ13_hashCode_3_0 24 rfl rfl
theorem dJ13_hashCode_3_0 : decode cJ13_hashCode_3 0 = .ok (.iload_n 2, 1) := dk_28 (dk_at dksJ13_hashCode_3_0 0 rfl rfl)
theorem dJ13_hashCode_3_1 : decode cJ13_hashCode_3 1 = .ok (.iload_n 3, 1) := dk_29 (dk_at dksJ13_hashCode_3_0 1 rfl rfl)
theorem dJ13_hashCode_3_2 : decode cJ13_hashCode_3 2 = .ok (.iadd, 1) := dk_96 (dk_at dksJ13_hashCode_3_0 2 rfl rfl)
theorem dJ13_hashCode_3_3 : decode cJ13_hashCode_3 3 = .ok (.istore 4, 2) := dk_54 4 (dk_at dksJ13_hashCode_3_0 3 rfl rfl)
theorem dJ13_hashCode_3_5 : decode cJ13_hashCode_3 5 = .ok (.iload_n 2, 1) := dk_28 (dk_at dksJ13_hashCode_3_0 5 rfl rfl)
theorem dJ13_hashCode_3_6 : decode cJ13_hashCode_3 6 = .ok (.istore 5, 2) := dk_54 5 (dk_at dksJ13_hashCode_3_0 6 rfl rfl)
theorem dJ13_hashCode_3_8 : decode cJ13_hashCode_3 8 = .ok (.iload 5, 2) := dk_21 5 (dk_at dksJ13_hashCode_3_0 8 rfl rfl)
theorem dJ13_hashCode_3_10 : decode cJ13_hashCode_3 10 = .ok (.iload 4, 2) := dk_21 4 (dk_at dksJ13_hashCode_3_0 10 rfl rfl)
theorem dJ13_hashCode_3_12 : decode cJ13_hashCode_3 12 = .ok (.if_icmp .ge 19, 3) := dk_162 0 19 (dk_at dksJ13_hashCode_3_0 12 rfl rfl)
theorem dJ13_hashCode_3_15 : decode cJ13_hashCode_3 15 = .ok (.bipush 31, 2) := dk_16 31 (dk_at dksJ13_hashCode_3_0 15 rfl rfl)
theorem dJ13_hashCode_3_17 : decode cJ13_hashCode_3 17 = .ok (.iload_n 0, 1) := dk_26 (dk_at dksJ13_hashCode_3_0 17 rfl rfl)
theorem dJ13_hashCode_3_18 : decode cJ13_hashCode_3 18 = .ok (.imul, 1) := dk_104 (dk_at dksJ13_hashCode_3_0 18 rfl rfl)
theorem dJ13_hashCode_3_19 : decode cJ13_hashCode_3 19 = .ok (.aload_n 1, 1) := dk_43 (dk_at dksJ13_hashCode_3_0 19 rfl rfl)
theorem dJ13_hashCode_3_20 : decode cJ13_hashCode_3 20 = .ok (.iload 5, 2) := dk_21 5 (dk_at dksJ13_hashCode_3_0 20 rfl rfl)
theorem dJ13_hashCode_3_22 : decode cJ13_hashCode_3 22 = .ok (.saload, 1) := dk_53 (dk_at dksJ13_hashCode_3_0 22 rfl rfl)
theorem dJ13_hashCode_3_23 : decode cJ13_hashCode_3 23 = .ok (.iadd, 1) := dk_96 (dk_at dksJ13_hashCode_3_0 23 rfl rfl)
theorem dJ13_hashCode_3_24 : decode cJ13_hashCode_3 24 = .ok (.istore_n 0, 1) := dk_59 (dk_at dksJ13_hashCode_3_1 0 rfl rfl)
theorem dJ13_hashCode_3_25 : decode cJ13_hashCode_3 25 = .ok (.iinc 5 1, 3) := dk_132 5 1 (dk_at dksJ13_hashCode_3_1 1 rfl rfl)
theorem dJ13_hashCode_3_28 : decode cJ13_hashCode_3 28 = .ok (.goto (-20), 3) := dk_167 255 236 (dk_at dksJ13_hashCode_3_1 4 rfl rfl)
theorem dJ13_hashCode_3_31 : decode cJ13_hashCode_3 31 = .ok (.iload_n 0, 1) := dk_26 (dk_at dksJ13_hashCode_3_1 7 rfl rfl)
theorem dJ13_hashCode_3_32 : decode cJ13_hashCode_3 32 = .ok (.ireturn, 1) := dk_172 (dk_at dksJ13_hashCode_3_1 8 rfl rfl)
abbrev cJ13_hashCode_4 : ByteArray := prog_99_method_9_code
def yJ13_hashCode_4 : MethodName := ⟨RJ13, "hashCode", "(I[III)I"⟩
def dkwJ13_hashCode_4_1 : List UInt8 := [59, 132, 5, 1, 167, 255, 236, 26, 172]
abbrev dktJ13_hashCode_4_1 : List UInt8 := dkwJ13_hashCode_4_1 ++ []
def dkwJ13_hashCode_4_0 : List UInt8 := [28, 29, 96, 54, 4, 28, 54, 5, 21, 5, 21, 4, 162, 0, 19, 16, 31, 26, 104, 43, 21, 5, 46, 96]
abbrev dktJ13_hashCode_4_0 : List UInt8 := dkwJ13_hashCode_4_0 ++ dktJ13_hashCode_4_1
theorem dksJ13_hashCode_4_0 : cJ13_hashCode_4.data.toList.drop 0 = dktJ13_hashCode_4_0 := by decide +kernel
theorem dksJ13_hashCode_4_1 : cJ13_hashCode_4.data.toList.drop 24 = dktJ13_hashCode_4_1 := dk_seg dksJ13_hashCode_4_0 24 rfl rfl
theorem dJ13_hashCode_4_0 : decode cJ13_hashCode_4 0 = .ok (.iload_n 2, 1) := dk_28 (dk_at dksJ13_hashCode_4_0 0 rfl rfl)
theorem dJ13_hashCode_4_1 : decode cJ13_hashCode_4 1 = .ok (.iload_n 3, 1) := dk_29 (dk_at dksJ13_hashCode_4_0 1 rfl rfl)
theorem dJ13_hashCode_4_2 : decode cJ13_hashCode_4 2 = .ok (.iadd, 1) := dk_96 (dk_at dksJ13_hashCode_4_0 2 rfl rfl)
theorem dJ13_hashCode_4_3 : decode cJ13_hashCode_4 3 = .ok (.istore 4, 2) := dk_54 4 (dk_at dksJ13_hashCode_4_0 3 rfl rfl)
theorem dJ13_hashCode_4_5 : decode cJ13_hashCode_4 5 = .ok (.iload_n 2, 1) := dk_28 (dk_at dksJ13_hashCode_4_0 5 rfl rfl)
theorem dJ13_hashCode_4_6 : decode cJ13_hashCode_4 6 = .ok (.istore 5, 2) := dk_54 5 (dk_at dksJ13_hashCode_4_0 6 rfl rfl)
theorem dJ13_hashCode_4_8 : decode cJ13_hashCode_4 8 = .ok (.iload 5, 2) := dk_21 5 (dk_at dksJ13_hashCode_4_0 8 rfl rfl)
theorem dJ13_hashCode_4_10 : decode cJ13_hashCode_4 10 = .ok (.iload 4, 2) := dk_21 4 (dk_at dksJ13_hashCode_4_0 10 rfl rfl)
theorem dJ13_hashCode_4_12 : decode cJ13_hashCode_4 12 = .ok (.if_icmp .ge 19, 3) := dk_162 0 19 (dk_at dksJ13_hashCode_4_0 12 rfl rfl)
theorem dJ13_hashCode_4_15 : decode cJ13_hashCode_4 15 = .ok (.bipush 31, 2) := dk_16 31 (dk_at dksJ13_hashCode_4_0 15 rfl rfl)
theorem dJ13_hashCode_4_17 : decode cJ13_hashCode_4 17 = .ok (.iload_n 0, 1) := dk_26 (dk_at dksJ13_hashCode_4_0 17 rfl rfl)
theorem dJ13_hashCode_4_18 : decode cJ13_hashCode_4 18 = .ok (.imul, 1) := dk_104 (dk_at dksJ13_hashCode_4_0 18 rfl rfl)
theorem dJ13_hashCode_4_19 : decode cJ13_hashCode_4 19 = .ok (.aload_n 1, 1) := dk_43 (dk_at dksJ13_hashCode_4_0 19 rfl rfl)
theorem dJ13_hashCode_4_20 : decode cJ13_hashCode_4 20 = .ok (.iload 5, 2) := dk_21 5 (dk_at dksJ13_hashCode_4_0 20 rfl rfl)
theorem dJ13_hashCode_4_22 : decode cJ13_hashCode_4 22 = .ok (.iaload, 1) := dk_46 (dk_at dksJ13_hashCode_4_0 22 rfl rfl)
theorem dJ13_hashCode_4_23 : decode cJ13_hashCode_4 23 = .ok (.iadd, 1) := dk_96 (dk_at dksJ13_hashCode_4_0 23 rfl rfl)
theorem dJ13_hashCode_4_24 : decode cJ13_hashCode_4 24 = .ok (.istore_n 0, 1) := dk_59 (dk_at dksJ13_hashCode_4_1 0 rfl rfl)
theorem dJ13_hashCode_4_25 : decode cJ13_hashCode_4 25 = .ok (.iinc 5 1, 3) := dk_132 5 1 (dk_at dksJ13_hashCode_4_1 1 rfl rfl)
theorem dJ13_hashCode_4_28 : decode cJ13_hashCode_4 28 = .ok (.goto (-20), 3) := dk_167 255 236 (dk_at dksJ13_hashCode_4_1 4 rfl rfl)
theorem dJ13_hashCode_4_31 : decode cJ13_hashCode_4 31 = .ok (.iload_n 0, 1) := dk_26 (dk_at dksJ13_hashCode_4_1 7 rfl rfl)
theorem dJ13_hashCode_4_32 : decode cJ13_hashCode_4 32 = .ok (.ireturn, 1) := dk_172 (dk_at dksJ13_hashCode_4_1 8 rfl rfl)
abbrev cJ13_mismatch : ByteArray := prog_99_method_13_code
def yJ13_mismatch : MethodName := ⟨RJ13, "mismatch", "([B[BI)I"⟩
def dkwJ13_mismatch_3 : List UInt8 := [172]
abbrev dktJ13_mismatch_3 : List UInt8 := dkwJ13_mismatch_3 ++ []
def dkwJ13_mismatch_2 : List UInt8 := [62, 29, 28, 162, 0, 20, 42, 29, 51, 43, 29, 51, 159, 0, 5, 29, 172, 132, 3, 1, 167, 255, 237, 2]
abbrev dktJ13_mismatch_2 : List UInt8 := dkwJ13_mismatch_2 ++ dktJ13_mismatch_3
def dkwJ13_mismatch_1 : List UInt8 := [43, 178, 0, 126, 133, 28, 178, 0, 129, 184, 0, 122, 62, 29, 155, 0, 5, 29, 172, 28, 29, 2, 130, 100]
abbrev dktJ13_mismatch_1 : List UInt8 := dkwJ13_mismatch_1 ++ dktJ13_mismatch_2
def dkwJ13_mismatch_0 : List UInt8 := [3, 62, 28, 16, 7, 164, 0, 44, 42, 3, 51, 43, 3, 51, 159, 0, 5, 3, 172, 42, 178, 0, 126, 133]
abbrev dktJ13_mismatch_0 : List UInt8 := dkwJ13_mismatch_0 ++ dktJ13_mismatch_1
theorem dksJ13_mismatch_0 : cJ13_mismatch.data.toList.drop 0 = dktJ13_mismatch_0 := by decide +kernel
theorem dksJ13_mismatch_1 : cJ13_mismatch.data.toList.drop 24 = dktJ13_mismatch_1 := dk_seg dksJ13_mismatch_0 24 rfl rfl
theorem dksJ13_mismatch_2 : cJ13_mismatch.data.toList.drop 48 = dktJ13_mismatch_2 := dk_seg dksJ13_mismatch_1 24 rfl rfl
theorem dksJ13_mismatch_3 : cJ13_mismatch.data.toList.drop 72 = dktJ13_mismatch_3 := dk_seg dksJ13_mismatch_2 24 rfl rfl
theorem dJ13_mismatch_0 : decode cJ13_mismatch 0 = .ok (.iconst 0, 1) := dk_3 (dk_at dksJ13_mismatch_0 0 rfl rfl)
theorem dJ13_mismatch_1 : decode cJ13_mismatch 1 = .ok (.istore_n 3, 1) := dk_62 (dk_at dksJ13_mismatch_0 1 rfl rfl)
theorem dJ13_mismatch_2 : decode cJ13_mismatch 2 = .ok (.iload_n 2, 1) := dk_28 (dk_at dksJ13_mismatch_0 2 rfl rfl)
theorem dJ13_mismatch_3 : decode cJ13_mismatch 3 = .ok (.bipush 7, 2) := dk_16 7 (dk_at dksJ13_mismatch_0 3 rfl rfl)
theorem dJ13_mismatch_5 : decode cJ13_mismatch 5 = .ok (.if_icmp .le 44, 3) := dk_164 0 44 (dk_at dksJ13_mismatch_0 5 rfl rfl)
theorem dJ13_mismatch_8 : decode cJ13_mismatch 8 = .ok (.aload_n 0, 1) := dk_42 (dk_at dksJ13_mismatch_0 8 rfl rfl)
theorem dJ13_mismatch_9 : decode cJ13_mismatch 9 = .ok (.iconst 0, 1) := dk_3 (dk_at dksJ13_mismatch_0 9 rfl rfl)
theorem dJ13_mismatch_10 : decode cJ13_mismatch 10 = .ok (.baload, 1) := dk_51 (dk_at dksJ13_mismatch_0 10 rfl rfl)
theorem dJ13_mismatch_11 : decode cJ13_mismatch 11 = .ok (.aload_n 1, 1) := dk_43 (dk_at dksJ13_mismatch_0 11 rfl rfl)
theorem dJ13_mismatch_12 : decode cJ13_mismatch 12 = .ok (.iconst 0, 1) := dk_3 (dk_at dksJ13_mismatch_0 12 rfl rfl)
theorem dJ13_mismatch_13 : decode cJ13_mismatch 13 = .ok (.baload, 1) := dk_51 (dk_at dksJ13_mismatch_0 13 rfl rfl)
theorem dJ13_mismatch_14 : decode cJ13_mismatch 14 = .ok (.if_icmp .eq 5, 3) := dk_159 0 5 (dk_at dksJ13_mismatch_0 14 rfl rfl)
theorem dJ13_mismatch_17 : decode cJ13_mismatch 17 = .ok (.iconst 0, 1) := dk_3 (dk_at dksJ13_mismatch_0 17 rfl rfl)
theorem dJ13_mismatch_18 : decode cJ13_mismatch 18 = .ok (.ireturn, 1) := dk_172 (dk_at dksJ13_mismatch_0 18 rfl rfl)
theorem dJ13_mismatch_19 : decode cJ13_mismatch 19 = .ok (.aload_n 0, 1) := dk_42 (dk_at dksJ13_mismatch_0 19 rfl rfl)
theorem dJ13_mismatch_20 : decode cJ13_mismatch 20 = .ok (.getstatic 126, 3) := dk_178 0 126 (dk_at dksJ13_mismatch_0 20 rfl rfl)
theorem dJ13_mismatch_23 : decode cJ13_mismatch 23 = .ok (.i2l, 1) := dk_133 (dk_at dksJ13_mismatch_0 23 rfl rfl)
theorem dJ13_mismatch_24 : decode cJ13_mismatch 24 = .ok (.aload_n 1, 1) := dk_43 (dk_at dksJ13_mismatch_1 0 rfl rfl)
theorem dJ13_mismatch_25 : decode cJ13_mismatch 25 = .ok (.getstatic 126, 3) := dk_178 0 126 (dk_at dksJ13_mismatch_1 1 rfl rfl)
theorem dJ13_mismatch_28 : decode cJ13_mismatch 28 = .ok (.i2l, 1) := dk_133 (dk_at dksJ13_mismatch_1 4 rfl rfl)
theorem dJ13_mismatch_29 : decode cJ13_mismatch 29 = .ok (.iload_n 2, 1) := dk_28 (dk_at dksJ13_mismatch_1 5 rfl rfl)
theorem dJ13_mismatch_30 : decode cJ13_mismatch 30 = .ok (.getstatic 129, 3) := dk_178 0 129 (dk_at dksJ13_mismatch_1 6 rfl rfl)
theorem dJ13_mismatch_33 : decode cJ13_mismatch 33 = .ok (.invokestatic 122, 3) := dk_184 0 122 (dk_at dksJ13_mismatch_1 9 rfl rfl)
theorem dJ13_mismatch_36 : decode cJ13_mismatch 36 = .ok (.istore_n 3, 1) := dk_62 (dk_at dksJ13_mismatch_1 12 rfl rfl)
theorem dJ13_mismatch_37 : decode cJ13_mismatch 37 = .ok (.iload_n 3, 1) := dk_29 (dk_at dksJ13_mismatch_1 13 rfl rfl)
theorem dJ13_mismatch_38 : decode cJ13_mismatch 38 = .ok (.ifCond .lt 5, 3) := dk_155 0 5 (dk_at dksJ13_mismatch_1 14 rfl rfl)
theorem dJ13_mismatch_41 : decode cJ13_mismatch 41 = .ok (.iload_n 3, 1) := dk_29 (dk_at dksJ13_mismatch_1 17 rfl rfl)
theorem dJ13_mismatch_42 : decode cJ13_mismatch 42 = .ok (.ireturn, 1) := dk_172 (dk_at dksJ13_mismatch_1 18 rfl rfl)
theorem dJ13_mismatch_43 : decode cJ13_mismatch 43 = .ok (.iload_n 2, 1) := dk_28 (dk_at dksJ13_mismatch_1 19 rfl rfl)
theorem dJ13_mismatch_44 : decode cJ13_mismatch 44 = .ok (.iload_n 3, 1) := dk_29 (dk_at dksJ13_mismatch_1 20 rfl rfl)
theorem dJ13_mismatch_45 : decode cJ13_mismatch 45 = .ok (.iconst (-1), 1) := dk_2 (dk_at dksJ13_mismatch_1 21 rfl rfl)
theorem dJ13_mismatch_46 : decode cJ13_mismatch 46 = .ok (.ixor, 1) := dk_130 (dk_at dksJ13_mismatch_1 22 rfl rfl)
theorem dJ13_mismatch_47 : decode cJ13_mismatch 47 = .ok (.isub, 1) := dk_100 (dk_at dksJ13_mismatch_1 23 rfl rfl)
theorem dJ13_mismatch_48 : decode cJ13_mismatch 48 = .ok (.istore_n 3, 1) := dk_62 (dk_at dksJ13_mismatch_2 0 rfl rfl)
theorem dJ13_mismatch_49 : decode cJ13_mismatch 49 = .ok (.iload_n 3, 1) := dk_29 (dk_at dksJ13_mismatch_2 1 rfl rfl)
theorem dJ13_mismatch_50 : decode cJ13_mismatch 50 = .ok (.iload_n 2, 1) := dk_28 (dk_at dksJ13_mismatch_2 2 rfl rfl)
theorem dJ13_mismatch_51 : decode cJ13_mismatch 51 = .ok (.if_icmp .ge 20, 3) := dk_162 0 20 (dk_at dksJ13_mismatch_2 3 rfl rfl)
theorem dJ13_mismatch_54 : decode cJ13_mismatch 54 = .ok (.aload_n 0, 1) := dk_42 (dk_at dksJ13_mismatch_2 6 rfl rfl)
theorem dJ13_mismatch_55 : decode cJ13_mismatch 55 = .ok (.iload_n 3, 1) := dk_29 (dk_at dksJ13_mismatch_2 7 rfl rfl)
theorem dJ13_mismatch_56 : decode cJ13_mismatch 56 = .ok (.baload, 1) := dk_51 (dk_at dksJ13_mismatch_2 8 rfl rfl)
theorem dJ13_mismatch_57 : decode cJ13_mismatch 57 = .ok (.aload_n 1, 1) := dk_43 (dk_at dksJ13_mismatch_2 9 rfl rfl)
theorem dJ13_mismatch_58 : decode cJ13_mismatch 58 = .ok (.iload_n 3, 1) := dk_29 (dk_at dksJ13_mismatch_2 10 rfl rfl)
theorem dJ13_mismatch_59 : decode cJ13_mismatch 59 = .ok (.baload, 1) := dk_51 (dk_at dksJ13_mismatch_2 11 rfl rfl)
theorem dJ13_mismatch_60 : decode cJ13_mismatch 60 = .ok (.if_icmp .eq 5, 3) := dk_159 0 5 (dk_at dksJ13_mismatch_2 12 rfl rfl)
theorem dJ13_mismatch_63 : decode cJ13_mismatch 63 = .ok (.iload_n 3, 1) := dk_29 (dk_at dksJ13_mismatch_2 15 rfl rfl)
theorem dJ13_mismatch_64 : decode cJ13_mismatch 64 = .ok (.ireturn, 1) := dk_172 (dk_at dksJ13_mismatch_2 16 rfl rfl)
theorem dJ13_mismatch_65 : decode cJ13_mismatch 65 = .ok (.iinc 3 1, 3) := dk_132 3 1 (dk_at dksJ13_mismatch_2 17 rfl rfl)
theorem dJ13_mismatch_68 : decode cJ13_mismatch 68 = .ok (.goto (-19), 3) := dk_167 255 237 (dk_at dksJ13_mismatch_2 20 rfl rfl)
theorem dJ13_mismatch_71 : decode cJ13_mismatch 71 = .ok (.iconst (-1), 1) := dk_2 (dk_at dksJ13_mismatch_2 23 rfl rfl)
theorem dJ13_mismatch_72 : decode cJ13_mismatch 72 = .ok (.ireturn, 1) := dk_172 (dk_at dksJ13_mismatch_3 0 rfl rfl)
abbrev cJ13_vectorizedMismatch : ByteArray := prog_99_method_3_code
def yJ13_vectorizedMismatch : MethodName := ⟨RJ13, "vectorizedMismatch", "(Ljava/lang/Object;JLjava/lang/Object;JII)I"⟩
def dkwJ13_vectorizedMismatch_11 : List UInt8 := [54, 10, 21, 10, 2, 130, 172, 21, 10, 2, 130, 172]
abbrev dktJ13_vectorizedMismatch_11 : List UInt8 := dkwJ13_vectorizedMismatch_11 ++ []
def dkwJ13_vectorizedMismatch_10 : List UInt8 := [178, 0, 46, 21, 7, 96, 122, 54, 17, 21, 9, 21, 8, 120, 21, 17, 96, 172, 21, 10, 21, 11, 100]
abbrev dktJ13_vectorizedMismatch_10 : List UInt8 := dkwJ13_vectorizedMismatch_10 ++ dktJ13_vectorizedMismatch_11
def dkwJ13_vectorizedMismatch_9 : List UInt8 := [153, 0, 18, 21, 16, 184, 0, 58, 178, 0, 46, 21, 7, 96, 122, 167, 0, 15, 21, 16, 184, 0, 11]
abbrev dktJ13_vectorizedMismatch_9 : List UInt8 := dkwJ13_vectorizedMismatch_9 ++ dktJ13_vectorizedMismatch_10
def dkwJ13_vectorizedMismatch_8 : List UInt8 := [182, 0, 54, 54, 15, 21, 14, 21, 15, 159, 0, 54, 21, 14, 21, 15, 130, 54, 16, 178, 0, 36]
abbrev dktJ13_vectorizedMismatch_8 : List UInt8 := dkwJ13_vectorizedMismatch_8 ++ dktJ13_vectorizedMismatch_9
def dkwJ13_vectorizedMismatch_7 : List UInt8 := [55, 12, 178, 0, 26, 42, 31, 22, 12, 97, 182, 0, 54, 54, 14, 178, 0, 26, 45, 22, 4, 22, 12, 97]
abbrev dktJ13_vectorizedMismatch_7 : List UInt8 := dkwJ13_vectorizedMismatch_7 ++ dktJ13_vectorizedMismatch_8
def dkwJ13_vectorizedMismatch_6 : List UInt8 := [4, 178, 0, 51, 21, 7, 100, 120, 54, 11, 21, 10, 21, 11, 161, 0, 104, 21, 9, 133, 178, 0, 20, 121]
abbrev dktJ13_vectorizedMismatch_6 : List UInt8 := dkwJ13_vectorizedMismatch_6 ++ dktJ13_vectorizedMismatch_7
def dkwJ13_vectorizedMismatch_5 : List UInt8 := [132, 9, 1, 167, 255, 148, 21, 6, 21, 9, 21, 8, 120, 100, 54, 10, 21, 7, 178, 0, 51, 162, 0, 126]
abbrev dktJ13_vectorizedMismatch_5 : List UInt8 := dkwJ13_vectorizedMismatch_5 ++ dktJ13_vectorizedMismatch_6
def dkwJ13_vectorizedMismatch_4 : List UInt8 := [22, 16, 184, 0, 49, 178, 0, 46, 21, 7, 96, 122, 54, 18, 21, 9, 21, 8, 120, 21, 18, 96, 172]
abbrev dktJ13_vectorizedMismatch_4 : List UInt8 := dkwJ13_vectorizedMismatch_4 ++ dktJ13_vectorizedMismatch_5
def dkwJ13_vectorizedMismatch_3 : List UInt8 := [55, 16, 178, 0, 36, 153, 0, 18, 22, 16, 184, 0, 40, 178, 0, 46, 21, 7, 96, 122, 167, 0, 15]
abbrev dktJ13_vectorizedMismatch_3 : List UInt8 := dkwJ13_vectorizedMismatch_3 ++ dktJ13_vectorizedMismatch_4
def dkwJ13_vectorizedMismatch_2 : List UInt8 := [22, 4, 22, 10, 97, 182, 0, 30, 55, 14, 22, 12, 22, 14, 148, 153, 0, 54, 22, 12, 22, 14, 131]
abbrev dktJ13_vectorizedMismatch_2 : List UInt8 := dkwJ13_vectorizedMismatch_2 ++ dktJ13_vectorizedMismatch_3
def dkwJ13_vectorizedMismatch_1 : List UInt8 := [178, 0, 20, 121, 55, 10, 178, 0, 26, 42, 31, 22, 10, 97, 182, 0, 30, 55, 12, 178, 0, 26, 45]
abbrev dktJ13_vectorizedMismatch_1 : List UInt8 := dkwJ13_vectorizedMismatch_1 ++ dktJ13_vectorizedMismatch_2
def dkwJ13_vectorizedMismatch_0 : List UInt8 := [178, 0, 20, 21, 7, 100, 54, 8, 3, 54, 9, 21, 9, 21, 6, 21, 8, 122, 162, 0, 104, 21, 9, 133]
abbrev dktJ13_vectorizedMismatch_0 : List UInt8 := dkwJ13_vectorizedMismatch_0 ++ dktJ13_vectorizedMismatch_1
theorem dksJ13_vectorizedMismatch_0 : cJ13_vectorizedMismatch.data.toList.drop 0 = dktJ13_vectorizedMismatch_0 := by decide +kernel
theorem dksJ13_vectorizedMismatch_1 : cJ13_vectorizedMismatch.data.toList.drop 24 = dktJ13_vectorizedMismatch_1 := dk_seg dksJ13_vectorizedMismatch_0 24 rfl rfl
theorem dksJ13_vectorizedMismatch_2 : cJ13_vectorizedMismatch.data.toList.drop 47 = dktJ13_vectorizedMismatch_2 := dk_seg dksJ13_vectorizedMismatch_1 23 rfl rfl
theorem dksJ13_vectorizedMismatch_3 : cJ13_vectorizedMismatch.data.toList.drop 70 = dktJ13_vectorizedMismatch_3 := dk_seg dksJ13_vectorizedMismatch_2 23 rfl rfl
theorem dksJ13_vectorizedMismatch_4 : cJ13_vectorizedMismatch.data.toList.drop 93 = dktJ13_vectorizedMismatch_4 := dk_seg dksJ13_vectorizedMismatch_3 23 rfl rfl
theorem dksJ13_vectorizedMismatch_5 : cJ13_vectorizedMismatch.data.toList.drop 116 = dktJ13_vectorizedMismatch_5 := dk_seg dksJ13_vectorizedMismatch_4 23 rfl rfl
theorem dksJ13_vectorizedMismatch_6 : cJ13_vectorizedMismatch.data.toList.drop 140 = dktJ13_vectorizedMismatch_6 := dk_seg dksJ13_vectorizedMismatch_5 24 rfl rfl
theorem dksJ13_vectorizedMismatch_7 : cJ13_vectorizedMismatch.data.toList.drop 164 = dktJ13_vectorizedMismatch_7 := dk_seg dksJ13_vectorizedMismatch_6 24 rfl rfl
theorem dksJ13_vectorizedMismatch_8 : cJ13_vectorizedMismatch.data.toList.drop 188 = dktJ13_vectorizedMismatch_8 := dk_seg dksJ13_vectorizedMismatch_7 24 rfl rfl
theorem dksJ13_vectorizedMismatch_9 : cJ13_vectorizedMismatch.data.toList.drop 210 = dktJ13_vectorizedMismatch_9 := dk_seg dksJ13_vectorizedMismatch_8 22 rfl rfl
theorem dksJ13_vectorizedMismatch_10 : cJ13_vectorizedMismatch.data.toList.drop 233 = dktJ13_vectorizedMismatch_10 := dk_seg dksJ13_vectorizedMismatch_9 23 rfl rfl
theorem dksJ13_vectorizedMismatch_11 : cJ13_vectorizedMismatch.data.toList.drop 256 = dktJ13_vectorizedMismatch_11 := dk_seg dksJ13_vectorizedMismatch_10 23 rfl rfl
theorem dJ13_vectorizedMismatch_0 : decode cJ13_vectorizedMismatch 0 = .ok (.getstatic 20, 3) := dk_178 0 20 (dk_at dksJ13_vectorizedMismatch_0 0 rfl rfl)
theorem dJ13_vectorizedMismatch_3 : decode cJ13_vectorizedMismatch 3 = .ok (.iload 7, 2) := dk_21 7 (dk_at dksJ13_vectorizedMismatch_0 3 rfl rfl)
theorem dJ13_vectorizedMismatch_5 : decode cJ13_vectorizedMismatch 5 = .ok (.isub, 1) := dk_100 (dk_at dksJ13_vectorizedMismatch_0 5 rfl rfl)
theorem dJ13_vectorizedMismatch_6 : decode cJ13_vectorizedMismatch 6 = .ok (.istore 8, 2) := dk_54 8 (dk_at dksJ13_vectorizedMismatch_0 6 rfl rfl)
theorem dJ13_vectorizedMismatch_8 : decode cJ13_vectorizedMismatch 8 = .ok (.iconst 0, 1) := dk_3 (dk_at dksJ13_vectorizedMismatch_0 8 rfl rfl)
theorem dJ13_vectorizedMismatch_9 : decode cJ13_vectorizedMismatch 9 = .ok (.istore 9, 2) := dk_54 9 (dk_at dksJ13_vectorizedMismatch_0 9 rfl rfl)
theorem dJ13_vectorizedMismatch_11 : decode cJ13_vectorizedMismatch 11 = .ok (.iload 9, 2) := dk_21 9 (dk_at dksJ13_vectorizedMismatch_0 11 rfl rfl)
theorem dJ13_vectorizedMismatch_13 : decode cJ13_vectorizedMismatch 13 = .ok (.iload 6, 2) := dk_21 6 (dk_at dksJ13_vectorizedMismatch_0 13 rfl rfl)
theorem dJ13_vectorizedMismatch_15 : decode cJ13_vectorizedMismatch 15 = .ok (.iload 8, 2) := dk_21 8 (dk_at dksJ13_vectorizedMismatch_0 15 rfl rfl)
theorem dJ13_vectorizedMismatch_17 : decode cJ13_vectorizedMismatch 17 = .ok (.ishr, 1) := dk_122 (dk_at dksJ13_vectorizedMismatch_0 17 rfl rfl)
theorem dJ13_vectorizedMismatch_18 : decode cJ13_vectorizedMismatch 18 = .ok (.if_icmp .ge 104, 3) := dk_162 0 104 (dk_at dksJ13_vectorizedMismatch_0 18 rfl rfl)
theorem dJ13_vectorizedMismatch_21 : decode cJ13_vectorizedMismatch 21 = .ok (.iload 9, 2) := dk_21 9 (dk_at dksJ13_vectorizedMismatch_0 21 rfl rfl)
theorem dJ13_vectorizedMismatch_23 : decode cJ13_vectorizedMismatch 23 = .ok (.i2l, 1) := dk_133 (dk_at dksJ13_vectorizedMismatch_0 23 rfl rfl)
theorem dJ13_vectorizedMismatch_24 : decode cJ13_vectorizedMismatch 24 = .ok (.getstatic 20, 3) := dk_178 0 20 (dk_at dksJ13_vectorizedMismatch_1 0 rfl rfl)
theorem dJ13_vectorizedMismatch_27 : decode cJ13_vectorizedMismatch 27 = .ok (.lshl, 1) := dk_121 (dk_at dksJ13_vectorizedMismatch_1 3 rfl rfl)
theorem dJ13_vectorizedMismatch_28 : decode cJ13_vectorizedMismatch 28 = .ok (.lstore 10, 2) := dk_55 10 (dk_at dksJ13_vectorizedMismatch_1 4 rfl rfl)
theorem dJ13_vectorizedMismatch_30 : decode cJ13_vectorizedMismatch 30 = .ok (.getstatic 26, 3) := dk_178 0 26 (dk_at dksJ13_vectorizedMismatch_1 6 rfl rfl)
theorem dJ13_vectorizedMismatch_33 : decode cJ13_vectorizedMismatch 33 = .ok (.aload_n 0, 1) := dk_42 (dk_at dksJ13_vectorizedMismatch_1 9 rfl rfl)
theorem dJ13_vectorizedMismatch_34 : decode cJ13_vectorizedMismatch 34 = .ok (.lload_n 1, 1) := dk_31 (dk_at dksJ13_vectorizedMismatch_1 10 rfl rfl)
theorem dJ13_vectorizedMismatch_35 : decode cJ13_vectorizedMismatch 35 = .ok (.lload 10, 2) := dk_22 10 (dk_at dksJ13_vectorizedMismatch_1 11 rfl rfl)
theorem dJ13_vectorizedMismatch_37 : decode cJ13_vectorizedMismatch 37 = .ok (.ladd, 1) := dk_97 (dk_at dksJ13_vectorizedMismatch_1 13 rfl rfl)
theorem dJ13_vectorizedMismatch_38 : decode cJ13_vectorizedMismatch 38 = .ok (.invokevirtual 30, 3) := dk_182 0 30 (dk_at dksJ13_vectorizedMismatch_1 14 rfl rfl)
theorem dJ13_vectorizedMismatch_41 : decode cJ13_vectorizedMismatch 41 = .ok (.lstore 12, 2) := dk_55 12 (dk_at dksJ13_vectorizedMismatch_1 17 rfl rfl)
theorem dJ13_vectorizedMismatch_43 : decode cJ13_vectorizedMismatch 43 = .ok (.getstatic 26, 3) := dk_178 0 26 (dk_at dksJ13_vectorizedMismatch_1 19 rfl rfl)
theorem dJ13_vectorizedMismatch_46 : decode cJ13_vectorizedMismatch 46 = .ok (.aload_n 3, 1) := dk_45 (dk_at dksJ13_vectorizedMismatch_1 22 rfl rfl)
theorem dJ13_vectorizedMismatch_47 : decode cJ13_vectorizedMismatch 47 = .ok (.lload 4, 2) := dk_22 4 (dk_at dksJ13_vectorizedMismatch_2 0 rfl rfl)
theorem dJ13_vectorizedMismatch_49 : decode cJ13_vectorizedMismatch 49 = .ok (.lload 10, 2) := dk_22 10 (dk_at dksJ13_vectorizedMismatch_2 2 rfl rfl)
theorem dJ13_vectorizedMismatch_51 : decode cJ13_vectorizedMismatch 51 = .ok (.ladd, 1) := dk_97 (dk_at dksJ13_vectorizedMismatch_2 4 rfl rfl)
theorem dJ13_vectorizedMismatch_52 : decode cJ13_vectorizedMismatch 52 = .ok (.invokevirtual 30, 3) := dk_182 0 30 (dk_at dksJ13_vectorizedMismatch_2 5 rfl rfl)
theorem dJ13_vectorizedMismatch_55 : decode cJ13_vectorizedMismatch 55 = .ok (.lstore 14, 2) := dk_55 14 (dk_at dksJ13_vectorizedMismatch_2 8 rfl rfl)
theorem dJ13_vectorizedMismatch_57 : decode cJ13_vectorizedMismatch 57 = .ok (.lload 12, 2) := dk_22 12 (dk_at dksJ13_vectorizedMismatch_2 10 rfl rfl)
theorem dJ13_vectorizedMismatch_59 : decode cJ13_vectorizedMismatch 59 = .ok (.lload 14, 2) := dk_22 14 (dk_at dksJ13_vectorizedMismatch_2 12 rfl rfl)
theorem dJ13_vectorizedMismatch_61 : decode cJ13_vectorizedMismatch 61 = .ok (.lcmp, 1) := dk_148 (dk_at dksJ13_vectorizedMismatch_2 14 rfl rfl)
theorem dJ13_vectorizedMismatch_62 : decode cJ13_vectorizedMismatch 62 = .ok (.ifCond .eq 54, 3) := dk_153 0 54 (dk_at dksJ13_vectorizedMismatch_2 15 rfl rfl)
theorem dJ13_vectorizedMismatch_65 : decode cJ13_vectorizedMismatch 65 = .ok (.lload 12, 2) := dk_22 12 (dk_at dksJ13_vectorizedMismatch_2 18 rfl rfl)
theorem dJ13_vectorizedMismatch_67 : decode cJ13_vectorizedMismatch 67 = .ok (.lload 14, 2) := dk_22 14 (dk_at dksJ13_vectorizedMismatch_2 20 rfl rfl)
theorem dJ13_vectorizedMismatch_69 : decode cJ13_vectorizedMismatch 69 = .ok (.lxor, 1) := dk_131 (dk_at dksJ13_vectorizedMismatch_2 22 rfl rfl)
theorem dJ13_vectorizedMismatch_70 : decode cJ13_vectorizedMismatch 70 = .ok (.lstore 16, 2) := dk_55 16 (dk_at dksJ13_vectorizedMismatch_3 0 rfl rfl)
theorem dJ13_vectorizedMismatch_72 : decode cJ13_vectorizedMismatch 72 = .ok (.getstatic 36, 3) := dk_178 0 36 (dk_at dksJ13_vectorizedMismatch_3 2 rfl rfl)
theorem dJ13_vectorizedMismatch_75 : decode cJ13_vectorizedMismatch 75 = .ok (.ifCond .eq 18, 3) := dk_153 0 18 (dk_at dksJ13_vectorizedMismatch_3 5 rfl rfl)
theorem dJ13_vectorizedMismatch_78 : decode cJ13_vectorizedMismatch 78 = .ok (.lload 16, 2) := dk_22 16 (dk_at dksJ13_vectorizedMismatch_3 8 rfl rfl)
theorem dJ13_vectorizedMismatch_80 : decode cJ13_vectorizedMismatch 80 = .ok (.invokestatic 40, 3) := dk_184 0 40 (dk_at dksJ13_vectorizedMismatch_3 10 rfl rfl)
theorem dJ13_vectorizedMismatch_83 : decode cJ13_vectorizedMismatch 83 = .ok (.getstatic 46, 3) := dk_178 0 46 (dk_at dksJ13_vectorizedMismatch_3 13 rfl rfl)
theorem dJ13_vectorizedMismatch_86 : decode cJ13_vectorizedMismatch 86 = .ok (.iload 7, 2) := dk_21 7 (dk_at dksJ13_vectorizedMismatch_3 16 rfl rfl)
theorem dJ13_vectorizedMismatch_88 : decode cJ13_vectorizedMismatch 88 = .ok (.iadd, 1) := dk_96 (dk_at dksJ13_vectorizedMismatch_3 18 rfl rfl)
theorem dJ13_vectorizedMismatch_89 : decode cJ13_vectorizedMismatch 89 = .ok (.ishr, 1) := dk_122 (dk_at dksJ13_vectorizedMismatch_3 19 rfl rfl)
theorem dJ13_vectorizedMismatch_90 : decode cJ13_vectorizedMismatch 90 = .ok (.goto 15, 3) := dk_167 0 15 (dk_at dksJ13_vectorizedMismatch_3 20 rfl rfl)
theorem dJ13_vectorizedMismatch_93 : decode cJ13_vectorizedMismatch 93 = .ok (.lload 16, 2) := dk_22 16 (dk_at dksJ13_vectorizedMismatch_4 0 rfl rfl)
theorem dJ13_vectorizedMismatch_95 : decode cJ13_vectorizedMismatch 95 = .ok (.invokestatic 49, 3) := dk_184 0 49 (dk_at dksJ13_vectorizedMismatch_4 2 rfl rfl)
theorem dJ13_vectorizedMismatch_98 : decode cJ13_vectorizedMismatch 98 = .ok (.getstatic 46, 3) := dk_178 0 46 (dk_at dksJ13_vectorizedMismatch_4 5 rfl rfl)
theorem dJ13_vectorizedMismatch_101 : decode cJ13_vectorizedMismatch 101 = .ok (.iload 7, 2) := dk_21 7 (dk_at dksJ13_vectorizedMismatch_4 8 rfl rfl)
theorem dJ13_vectorizedMismatch_103 : decode cJ13_vectorizedMismatch 103 = .ok (.iadd, 1) := dk_96 (dk_at dksJ13_vectorizedMismatch_4 10 rfl rfl)
theorem dJ13_vectorizedMismatch_104 : decode cJ13_vectorizedMismatch 104 = .ok (.ishr, 1) := dk_122 (dk_at dksJ13_vectorizedMismatch_4 11 rfl rfl)
theorem dJ13_vectorizedMismatch_105 : decode cJ13_vectorizedMismatch 105 = .ok (.istore 18, 2) := dk_54 18 (dk_at dksJ13_vectorizedMismatch_4 12 rfl rfl)
theorem dJ13_vectorizedMismatch_107 : decode cJ13_vectorizedMismatch 107 = .ok (.iload 9, 2) := dk_21 9 (dk_at dksJ13_vectorizedMismatch_4 14 rfl rfl)
theorem dJ13_vectorizedMismatch_109 : decode cJ13_vectorizedMismatch 109 = .ok (.iload 8, 2) := dk_21 8 (dk_at dksJ13_vectorizedMismatch_4 16 rfl rfl)
theorem dJ13_vectorizedMismatch_111 : decode cJ13_vectorizedMismatch 111 = .ok (.ishl, 1) := dk_120 (dk_at dksJ13_vectorizedMismatch_4 18 rfl rfl)
theorem dJ13_vectorizedMismatch_112 : decode cJ13_vectorizedMismatch 112 = .ok (.iload 18, 2) := dk_21 18 (dk_at dksJ13_vectorizedMismatch_4 19 rfl rfl)
theorem dJ13_vectorizedMismatch_114 : decode cJ13_vectorizedMismatch 114 = .ok (.iadd, 1) := dk_96 (dk_at dksJ13_vectorizedMismatch_4 21 rfl rfl)
theorem dJ13_vectorizedMismatch_115 : decode cJ13_vectorizedMismatch 115 = .ok (.ireturn, 1) := dk_172 (dk_at dksJ13_vectorizedMismatch_4 22 rfl rfl)
theorem dJ13_vectorizedMismatch_116 : decode cJ13_vectorizedMismatch 116 = .ok (.iinc 9 1, 3) := dk_132 9 1 (dk_at dksJ13_vectorizedMismatch_5 0 rfl rfl)
theorem dJ13_vectorizedMismatch_119 : decode cJ13_vectorizedMismatch 119 = .ok (.goto (-108), 3) := dk_167 255 148 (dk_at dksJ13_vectorizedMismatch_5 3 rfl rfl)
theorem dJ13_vectorizedMismatch_122 : decode cJ13_vectorizedMismatch 122 = .ok (.iload 6, 2) := dk_21 6 (dk_at dksJ13_vectorizedMismatch_5 6 rfl rfl)
theorem dJ13_vectorizedMismatch_124 : decode cJ13_vectorizedMismatch 124 = .ok (.iload 9, 2) := dk_21 9 (dk_at dksJ13_vectorizedMismatch_5 8 rfl rfl)
theorem dJ13_vectorizedMismatch_126 : decode cJ13_vectorizedMismatch 126 = .ok (.iload 8, 2) := dk_21 8 (dk_at dksJ13_vectorizedMismatch_5 10 rfl rfl)
theorem dJ13_vectorizedMismatch_128 : decode cJ13_vectorizedMismatch 128 = .ok (.ishl, 1) := dk_120 (dk_at dksJ13_vectorizedMismatch_5 12 rfl rfl)
theorem dJ13_vectorizedMismatch_129 : decode cJ13_vectorizedMismatch 129 = .ok (.isub, 1) := dk_100 (dk_at dksJ13_vectorizedMismatch_5 13 rfl rfl)
theorem dJ13_vectorizedMismatch_130 : decode cJ13_vectorizedMismatch 130 = .ok (.istore 10, 2) := dk_54 10 (dk_at dksJ13_vectorizedMismatch_5 14 rfl rfl)
theorem dJ13_vectorizedMismatch_132 : decode cJ13_vectorizedMismatch 132 = .ok (.iload 7, 2) := dk_21 7 (dk_at dksJ13_vectorizedMismatch_5 16 rfl rfl)
theorem dJ13_vectorizedMismatch_134 : decode cJ13_vectorizedMismatch 134 = .ok (.getstatic 51, 3) := dk_178 0 51 (dk_at dksJ13_vectorizedMismatch_5 18 rfl rfl)
theorem dJ13_vectorizedMismatch_137 : decode cJ13_vectorizedMismatch 137 = .ok (.if_icmp .ge 126, 3) := dk_162 0 126 (dk_at dksJ13_vectorizedMismatch_5 21 rfl rfl)
theorem dJ13_vectorizedMismatch_140 : decode cJ13_vectorizedMismatch 140 = .ok (.iconst 1, 1) := dk_4 (dk_at dksJ13_vectorizedMismatch_6 0 rfl rfl)
theorem dJ13_vectorizedMismatch_141 : decode cJ13_vectorizedMismatch 141 = .ok (.getstatic 51, 3) := dk_178 0 51 (dk_at dksJ13_vectorizedMismatch_6 1 rfl rfl)
theorem dJ13_vectorizedMismatch_144 : decode cJ13_vectorizedMismatch 144 = .ok (.iload 7, 2) := dk_21 7 (dk_at dksJ13_vectorizedMismatch_6 4 rfl rfl)
theorem dJ13_vectorizedMismatch_146 : decode cJ13_vectorizedMismatch 146 = .ok (.isub, 1) := dk_100 (dk_at dksJ13_vectorizedMismatch_6 6 rfl rfl)
theorem dJ13_vectorizedMismatch_147 : decode cJ13_vectorizedMismatch 147 = .ok (.ishl, 1) := dk_120 (dk_at dksJ13_vectorizedMismatch_6 7 rfl rfl)
theorem dJ13_vectorizedMismatch_148 : decode cJ13_vectorizedMismatch 148 = .ok (.istore 11, 2) := dk_54 11 (dk_at dksJ13_vectorizedMismatch_6 8 rfl rfl)
theorem dJ13_vectorizedMismatch_150 : decode cJ13_vectorizedMismatch 150 = .ok (.iload 10, 2) := dk_21 10 (dk_at dksJ13_vectorizedMismatch_6 10 rfl rfl)
theorem dJ13_vectorizedMismatch_152 : decode cJ13_vectorizedMismatch 152 = .ok (.iload 11, 2) := dk_21 11 (dk_at dksJ13_vectorizedMismatch_6 12 rfl rfl)
theorem dJ13_vectorizedMismatch_154 : decode cJ13_vectorizedMismatch 154 = .ok (.if_icmp .lt 104, 3) := dk_161 0 104 (dk_at dksJ13_vectorizedMismatch_6 14 rfl rfl)
theorem dJ13_vectorizedMismatch_157 : decode cJ13_vectorizedMismatch 157 = .ok (.iload 9, 2) := dk_21 9 (dk_at dksJ13_vectorizedMismatch_6 17 rfl rfl)
theorem dJ13_vectorizedMismatch_159 : decode cJ13_vectorizedMismatch 159 = .ok (.i2l, 1) := dk_133 (dk_at dksJ13_vectorizedMismatch_6 19 rfl rfl)
theorem dJ13_vectorizedMismatch_160 : decode cJ13_vectorizedMismatch 160 = .ok (.getstatic 20, 3) := dk_178 0 20 (dk_at dksJ13_vectorizedMismatch_6 20 rfl rfl)
theorem dJ13_vectorizedMismatch_163 : decode cJ13_vectorizedMismatch 163 = .ok (.lshl, 1) := dk_121 (dk_at dksJ13_vectorizedMismatch_6 23 rfl rfl)
theorem dJ13_vectorizedMismatch_164 : decode cJ13_vectorizedMismatch 164 = .ok (.lstore 12, 2) := dk_55 12 (dk_at dksJ13_vectorizedMismatch_7 0 rfl rfl)
theorem dJ13_vectorizedMismatch_166 : decode cJ13_vectorizedMismatch 166 = .ok (.getstatic 26, 3) := dk_178 0 26 (dk_at dksJ13_vectorizedMismatch_7 2 rfl rfl)
theorem dJ13_vectorizedMismatch_169 : decode cJ13_vectorizedMismatch 169 = .ok (.aload_n 0, 1) := dk_42 (dk_at dksJ13_vectorizedMismatch_7 5 rfl rfl)
theorem dJ13_vectorizedMismatch_170 : decode cJ13_vectorizedMismatch 170 = .ok (.lload_n 1, 1) := dk_31 (dk_at dksJ13_vectorizedMismatch_7 6 rfl rfl)
theorem dJ13_vectorizedMismatch_171 : decode cJ13_vectorizedMismatch 171 = .ok (.lload 12, 2) := dk_22 12 (dk_at dksJ13_vectorizedMismatch_7 7 rfl rfl)
theorem dJ13_vectorizedMismatch_173 : decode cJ13_vectorizedMismatch 173 = .ok (.ladd, 1) := dk_97 (dk_at dksJ13_vectorizedMismatch_7 9 rfl rfl)
theorem dJ13_vectorizedMismatch_174 : decode cJ13_vectorizedMismatch 174 = .ok (.invokevirtual 54, 3) := dk_182 0 54 (dk_at dksJ13_vectorizedMismatch_7 10 rfl rfl)
theorem dJ13_vectorizedMismatch_177 : decode cJ13_vectorizedMismatch 177 = .ok (.istore 14, 2) := dk_54 14 (dk_at dksJ13_vectorizedMismatch_7 13 rfl rfl)
theorem dJ13_vectorizedMismatch_179 : decode cJ13_vectorizedMismatch 179 = .ok (.getstatic 26, 3) := dk_178 0 26 (dk_at dksJ13_vectorizedMismatch_7 15 rfl rfl)
theorem dJ13_vectorizedMismatch_182 : decode cJ13_vectorizedMismatch 182 = .ok (.aload_n 3, 1) := dk_45 (dk_at dksJ13_vectorizedMismatch_7 18 rfl rfl)
theorem dJ13_vectorizedMismatch_183 : decode cJ13_vectorizedMismatch 183 = .ok (.lload 4, 2) := dk_22 4 (dk_at dksJ13_vectorizedMismatch_7 19 rfl rfl)
theorem dJ13_vectorizedMismatch_185 : decode cJ13_vectorizedMismatch 185 = .ok (.lload 12, 2) := dk_22 12 (dk_at dksJ13_vectorizedMismatch_7 21 rfl rfl)
theorem dJ13_vectorizedMismatch_187 : decode cJ13_vectorizedMismatch 187 = .ok (.ladd, 1) := dk_97 (dk_at dksJ13_vectorizedMismatch_7 23 rfl rfl)
theorem dJ13_vectorizedMismatch_188 : decode cJ13_vectorizedMismatch 188 = .ok (.invokevirtual 54, 3) := dk_182 0 54 (dk_at dksJ13_vectorizedMismatch_8 0 rfl rfl)
theorem dJ13_vectorizedMismatch_191 : decode cJ13_vectorizedMismatch 191 = .ok (.istore 15, 2) := dk_54 15 (dk_at dksJ13_vectorizedMismatch_8 3 rfl rfl)
theorem dJ13_vectorizedMismatch_193 : decode cJ13_vectorizedMismatch 193 = .ok (.iload 14, 2) := dk_21 14 (dk_at dksJ13_vectorizedMismatch_8 5 rfl rfl)
theorem dJ13_vectorizedMismatch_195 : decode cJ13_vectorizedMismatch 195 = .ok (.iload 15, 2) := dk_21 15 (dk_at dksJ13_vectorizedMismatch_8 7 rfl rfl)
theorem dJ13_vectorizedMismatch_197 : decode cJ13_vectorizedMismatch 197 = .ok (.if_icmp .eq 54, 3) := dk_159 0 54 (dk_at dksJ13_vectorizedMismatch_8 9 rfl rfl)
theorem dJ13_vectorizedMismatch_200 : decode cJ13_vectorizedMismatch 200 = .ok (.iload 14, 2) := dk_21 14 (dk_at dksJ13_vectorizedMismatch_8 12 rfl rfl)
theorem dJ13_vectorizedMismatch_202 : decode cJ13_vectorizedMismatch 202 = .ok (.iload 15, 2) := dk_21 15 (dk_at dksJ13_vectorizedMismatch_8 14 rfl rfl)
theorem dJ13_vectorizedMismatch_204 : decode cJ13_vectorizedMismatch 204 = .ok (.ixor, 1) := dk_130 (dk_at dksJ13_vectorizedMismatch_8 16 rfl rfl)
theorem dJ13_vectorizedMismatch_205 : decode cJ13_vectorizedMismatch 205 = .ok (.istore 16, 2) := dk_54 16 (dk_at dksJ13_vectorizedMismatch_8 17 rfl rfl)
theorem dJ13_vectorizedMismatch_207 : decode cJ13_vectorizedMismatch 207 = .ok (.getstatic 36, 3) := dk_178 0 36 (dk_at dksJ13_vectorizedMismatch_8 19 rfl rfl)
theorem dJ13_vectorizedMismatch_210 : decode cJ13_vectorizedMismatch 210 = .ok (.ifCond .eq 18, 3) := dk_153 0 18 (dk_at dksJ13_vectorizedMismatch_9 0 rfl rfl)
theorem dJ13_vectorizedMismatch_213 : decode cJ13_vectorizedMismatch 213 = .ok (.iload 16, 2) := dk_21 16 (dk_at dksJ13_vectorizedMismatch_9 3 rfl rfl)
theorem dJ13_vectorizedMismatch_215 : decode cJ13_vectorizedMismatch 215 = .ok (.invokestatic 58, 3) := dk_184 0 58 (dk_at dksJ13_vectorizedMismatch_9 5 rfl rfl)
theorem dJ13_vectorizedMismatch_218 : decode cJ13_vectorizedMismatch 218 = .ok (.getstatic 46, 3) := dk_178 0 46 (dk_at dksJ13_vectorizedMismatch_9 8 rfl rfl)
theorem dJ13_vectorizedMismatch_221 : decode cJ13_vectorizedMismatch 221 = .ok (.iload 7, 2) := dk_21 7 (dk_at dksJ13_vectorizedMismatch_9 11 rfl rfl)
theorem dJ13_vectorizedMismatch_223 : decode cJ13_vectorizedMismatch 223 = .ok (.iadd, 1) := dk_96 (dk_at dksJ13_vectorizedMismatch_9 13 rfl rfl)
theorem dJ13_vectorizedMismatch_224 : decode cJ13_vectorizedMismatch 224 = .ok (.ishr, 1) := dk_122 (dk_at dksJ13_vectorizedMismatch_9 14 rfl rfl)
theorem dJ13_vectorizedMismatch_225 : decode cJ13_vectorizedMismatch 225 = .ok (.goto 15, 3) := dk_167 0 15 (dk_at dksJ13_vectorizedMismatch_9 15 rfl rfl)
theorem dJ13_vectorizedMismatch_228 : decode cJ13_vectorizedMismatch 228 = .ok (.iload 16, 2) := dk_21 16 (dk_at dksJ13_vectorizedMismatch_9 18 rfl rfl)
theorem dJ13_vectorizedMismatch_230 : decode cJ13_vectorizedMismatch 230 = .ok (.invokestatic 11, 3) := dk_184 0 11 (dk_at dksJ13_vectorizedMismatch_9 20 rfl rfl)
theorem dJ13_vectorizedMismatch_233 : decode cJ13_vectorizedMismatch 233 = .ok (.getstatic 46, 3) := dk_178 0 46 (dk_at dksJ13_vectorizedMismatch_10 0 rfl rfl)
theorem dJ13_vectorizedMismatch_236 : decode cJ13_vectorizedMismatch 236 = .ok (.iload 7, 2) := dk_21 7 (dk_at dksJ13_vectorizedMismatch_10 3 rfl rfl)
theorem dJ13_vectorizedMismatch_238 : decode cJ13_vectorizedMismatch 238 = .ok (.iadd, 1) := dk_96 (dk_at dksJ13_vectorizedMismatch_10 5 rfl rfl)
theorem dJ13_vectorizedMismatch_239 : decode cJ13_vectorizedMismatch 239 = .ok (.ishr, 1) := dk_122 (dk_at dksJ13_vectorizedMismatch_10 6 rfl rfl)
theorem dJ13_vectorizedMismatch_240 : decode cJ13_vectorizedMismatch 240 = .ok (.istore 17, 2) := dk_54 17 (dk_at dksJ13_vectorizedMismatch_10 7 rfl rfl)
theorem dJ13_vectorizedMismatch_242 : decode cJ13_vectorizedMismatch 242 = .ok (.iload 9, 2) := dk_21 9 (dk_at dksJ13_vectorizedMismatch_10 9 rfl rfl)
theorem dJ13_vectorizedMismatch_244 : decode cJ13_vectorizedMismatch 244 = .ok (.iload 8, 2) := dk_21 8 (dk_at dksJ13_vectorizedMismatch_10 11 rfl rfl)
theorem dJ13_vectorizedMismatch_246 : decode cJ13_vectorizedMismatch 246 = .ok (.ishl, 1) := dk_120 (dk_at dksJ13_vectorizedMismatch_10 13 rfl rfl)
theorem dJ13_vectorizedMismatch_247 : decode cJ13_vectorizedMismatch 247 = .ok (.iload 17, 2) := dk_21 17 (dk_at dksJ13_vectorizedMismatch_10 14 rfl rfl)
theorem dJ13_vectorizedMismatch_249 : decode cJ13_vectorizedMismatch 249 = .ok (.iadd, 1) := dk_96 (dk_at dksJ13_vectorizedMismatch_10 16 rfl rfl)
theorem dJ13_vectorizedMismatch_250 : decode cJ13_vectorizedMismatch 250 = .ok (.ireturn, 1) := dk_172 (dk_at dksJ13_vectorizedMismatch_10 17 rfl rfl)
theorem dJ13_vectorizedMismatch_251 : decode cJ13_vectorizedMismatch 251 = .ok (.iload 10, 2) := dk_21 10 (dk_at dksJ13_vectorizedMismatch_10 18 rfl rfl)
theorem dJ13_vectorizedMismatch_253 : decode cJ13_vectorizedMismatch 253 = .ok (.iload 11, 2) := dk_21 11 (dk_at dksJ13_vectorizedMismatch_10 20 rfl rfl)
theorem dJ13_vectorizedMismatch_255 : decode cJ13_vectorizedMismatch 255 = .ok (.isub, 1) := dk_100 (dk_at dksJ13_vectorizedMismatch_10 22 rfl rfl)
theorem dJ13_vectorizedMismatch_256 : decode cJ13_vectorizedMismatch 256 = .ok (.istore 10, 2) := dk_54 10 (dk_at dksJ13_vectorizedMismatch_11 0 rfl rfl)
theorem dJ13_vectorizedMismatch_258 : decode cJ13_vectorizedMismatch 258 = .ok (.iload 10, 2) := dk_21 10 (dk_at dksJ13_vectorizedMismatch_11 2 rfl rfl)
theorem dJ13_vectorizedMismatch_260 : decode cJ13_vectorizedMismatch 260 = .ok (.iconst (-1), 1) := dk_2 (dk_at dksJ13_vectorizedMismatch_11 4 rfl rfl)
theorem dJ13_vectorizedMismatch_261 : decode cJ13_vectorizedMismatch 261 = .ok (.ixor, 1) := dk_130 (dk_at dksJ13_vectorizedMismatch_11 5 rfl rfl)
theorem dJ13_vectorizedMismatch_262 : decode cJ13_vectorizedMismatch 262 = .ok (.ireturn, 1) := dk_172 (dk_at dksJ13_vectorizedMismatch_11 6 rfl rfl)
theorem dJ13_vectorizedMismatch_263 : decode cJ13_vectorizedMismatch 263 = .ok (.iload 10, 2) := dk_21 10 (dk_at dksJ13_vectorizedMismatch_11 7 rfl rfl)
theorem dJ13_vectorizedMismatch_265 : decode cJ13_vectorizedMismatch 265 = .ok (.iconst (-1), 1) := dk_2 (dk_at dksJ13_vectorizedMismatch_11 9 rfl rfl)
theorem dJ13_vectorizedMismatch_266 : decode cJ13_vectorizedMismatch 266 = .ok (.ixor, 1) := dk_130 (dk_at dksJ13_vectorizedMismatch_11 10 rfl rfl)
theorem dJ13_vectorizedMismatch_267 : decode cJ13_vectorizedMismatch 267 = .ok (.ireturn, 1) := dk_172 (dk_at dksJ13_vectorizedMismatch_11 11 rfl rfl)
theorem q123 : (Jvm.Cond.initialized "jdk/internal/util/ArraysSupport") ∈ lw_all := lw_g (lw_at lw_m1 24 rfl) rfl
theorem q404 : (Jvm.Cond.static ({ cls := "jdk/internal/util/ArraysSupport", name := "newLength", desc := "(III)I" } : Jvm.MethodName)) ∈ lw_all := lw_g (lw_at lw_m2 65 rfl) rfl
theorem q405 : (Jvm.Cond.code ({ cls := "jdk/internal/util/ArraysSupport", name := "newLength", desc := "(III)I" } : Jvm.MethodName) prog_99_method_27_code (4 : Nat) (Option.some Jvm.ClassFile.FieldType.int)) ∈ lw_all := lw_g (lw_at lw_m2 66 rfl) rfl
theorem q406 : (Jvm.Cond.methodLink "jdk/internal/util/ArraysSupport" (194 : Nat) ({ cls := "java/lang/Math", name := "max", desc := "(II)I" } : Jvm.MethodName)) ∈ lw_all := lw_g (lw_at lw_m2 67 rfl) rfl
theorem q409 : (Jvm.Cond.constant "jdk/internal/util/ArraysSupport" (200 : Nat) (2147483639 : Int32)) ∈ lw_all := lw_g (lw_at lw_m2 70 rfl) rfl
theorem q410 : (Jvm.Cond.methodLink "jdk/internal/util/ArraysSupport" (201 : Nat) ({ cls := "jdk/internal/util/ArraysSupport", name := "hugeLength", desc := "(II)I" } : Jvm.MethodName)) ∈ lw_all := lw_g (lw_at lw_m2 71 rfl) rfl
theorem q411 : (Jvm.Cond.static ({ cls := "jdk/internal/util/ArraysSupport", name := "hugeLength", desc := "(II)I" } : Jvm.MethodName)) ∈ lw_all := lw_g (lw_at lw_m2 72 rfl) rfl
theorem q412 : (Jvm.Cond.code ({ cls := "jdk/internal/util/ArraysSupport", name := "hugeLength", desc := "(II)I" } : Jvm.MethodName) prog_99_method_28_code (3 : Nat) (Option.some Jvm.ClassFile.FieldType.int)) ∈ lw_all := lw_g (lw_at lw_m2 73 rfl) rfl
theorem q1106 : (Jvm.Cond.static ({ cls := "jdk/internal/util/ArraysSupport", name := "vectorizedHashCode", desc := "(Ljava/lang/Object;IIII)I" } : Jvm.MethodName)) ∈ lw_all := lw_g (lw_at lw_m5 47 rfl) rfl
theorem q1107 : (Jvm.Cond.code ({ cls := "jdk/internal/util/ArraysSupport", name := "vectorizedHashCode", desc := "(Ljava/lang/Object;IIII)I" } : Jvm.MethodName) prog_99_method_4_code (5 : Nat) (Option.some Jvm.ClassFile.FieldType.int)) ∈ lw_all := lw_g (lw_at lw_m5 48 rfl) rfl
theorem q1108 : (Jvm.Cond.classLink "jdk/internal/util/ArraysSupport" (60 : Nat) "[B") ∈ lw_all := lw_g (lw_at lw_m5 49 rfl) rfl
theorem q1109 : (Jvm.Cond.methodLink "jdk/internal/util/ArraysSupport" (62 : Nat) ({ cls := "jdk/internal/util/ArraysSupport", name := "signedHashCode", desc := "(I[BII)I" } : Jvm.MethodName)) ∈ lw_all := lw_g (lw_at lw_m5 50 rfl) rfl
theorem q1110 : (Jvm.Cond.static ({ cls := "jdk/internal/util/ArraysSupport", name := "signedHashCode", desc := "(I[BII)I" } : Jvm.MethodName)) ∈ lw_all := lw_g (lw_at lw_m5 51 rfl) rfl
theorem q1111 : (Jvm.Cond.code ({ cls := "jdk/internal/util/ArraysSupport", name := "signedHashCode", desc := "(I[BII)I" } : Jvm.MethodName) prog_99_method_5_code (6 : Nat) (Option.some Jvm.ClassFile.FieldType.int)) ∈ lw_all := lw_g (lw_at lw_m5 52 rfl) rfl
theorem q1112 : (Jvm.Cond.methodLink "jdk/internal/util/ArraysSupport" (66 : Nat) ({ cls := "jdk/internal/util/ArraysSupport", name := "utf16hashCode", desc := "(I[BII)I" } : Jvm.MethodName)) ∈ lw_all := lw_g (lw_at lw_m5 53 rfl) rfl
theorem q1113 : (Jvm.Cond.static ({ cls := "jdk/internal/util/ArraysSupport", name := "utf16hashCode", desc := "(I[BII)I" } : Jvm.MethodName)) ∈ lw_all := lw_g (lw_at lw_m5 54 rfl) rfl
theorem q1114 : (Jvm.Cond.code ({ cls := "jdk/internal/util/ArraysSupport", name := "utf16hashCode", desc := "(I[BII)I" } : Jvm.MethodName) prog_99_method_10_code (6 : Nat) (Option.some Jvm.ClassFile.FieldType.int)) ∈ lw_all := lw_g (lw_at lw_m5 55 rfl) rfl
theorem q1115 : (Jvm.Cond.fieldLink "jdk/internal/util/ArraysSupport" (106 : Nat) "jdk/internal/util/ArraysSupport" "JLA" "Ljdk/internal/access/JavaLangAccess;") ∈ lw_all := lw_g (lw_at lw_m5 56 rfl) rfl
theorem q1116 : (Jvm.Cond.laysStatic "jdk/internal/util/ArraysSupport" "JLA" "Ljdk/internal/access/JavaLangAccess;") ∈ lw_tbl := lw_at lw_m5 57 rfl
theorem q1117 : (Jvm.Cond.interfaceEntry "jdk/internal/util/ArraysSupport" (110 : Nat)) ∈ lw_tbl := lw_at lw_m5 58 rfl
theorem q1118 : (Jvm.Cond.methodLink "jdk/internal/util/ArraysSupport" (110 : Nat) ({ cls := "jdk/internal/access/JavaLangAccess", name := "getUTF16Char", desc := "([BI)C" } : Jvm.MethodName)) ∈ lw_all := lw_g (lw_at lw_m5 59 rfl) rfl
theorem q1128 : (Jvm.Cond.classLink "jdk/internal/util/ArraysSupport" (69 : Nat) "[C") ∈ lw_all := lw_g (lw_at lw_m5 69 rfl) rfl
theorem q1129 : (Jvm.Cond.methodLink "jdk/internal/util/ArraysSupport" (71 : Nat) ({ cls := "jdk/internal/util/ArraysSupport", name := "hashCode", desc := "(I[CII)I" } : Jvm.MethodName)) ∈ lw_all := lw_g (lw_at lw_m5 70 rfl) rfl
theorem q1130 : (Jvm.Cond.static ({ cls := "jdk/internal/util/ArraysSupport", name := "hashCode", desc := "(I[CII)I" } : Jvm.MethodName)) ∈ lw_all := lw_g (lw_at lw_m5 71 rfl) rfl
theorem q1131 : (Jvm.Cond.code ({ cls := "jdk/internal/util/ArraysSupport", name := "hashCode", desc := "(I[CII)I" } : Jvm.MethodName) prog_99_method_7_code (6 : Nat) (Option.some Jvm.ClassFile.FieldType.int)) ∈ lw_all := lw_g (lw_at lw_m5 72 rfl) rfl
theorem q1132 : (Jvm.Cond.methodLink "jdk/internal/util/ArraysSupport" (75 : Nat) ({ cls := "jdk/internal/util/ArraysSupport", name := "hashCode", desc := "(I[BII)I" } : Jvm.MethodName)) ∈ lw_all := lw_g (lw_at lw_m5 73 rfl) rfl
theorem q1133 : (Jvm.Cond.static ({ cls := "jdk/internal/util/ArraysSupport", name := "hashCode", desc := "(I[BII)I" } : Jvm.MethodName)) ∈ lw_all := lw_g (lw_at lw_m5 74 rfl) rfl
theorem q1134 : (Jvm.Cond.code ({ cls := "jdk/internal/util/ArraysSupport", name := "hashCode", desc := "(I[BII)I" } : Jvm.MethodName) prog_99_method_6_code (6 : Nat) (Option.some Jvm.ClassFile.FieldType.int)) ∈ lw_all := lw_g (lw_at lw_m5 75 rfl) rfl
theorem q1135 : (Jvm.Cond.classLink "jdk/internal/util/ArraysSupport" (77 : Nat) "[S") ∈ lw_all := lw_g (lw_at lw_m5 76 rfl) rfl
theorem q1136 : (Jvm.Cond.methodLink "jdk/internal/util/ArraysSupport" (79 : Nat) ({ cls := "jdk/internal/util/ArraysSupport", name := "hashCode", desc := "(I[SII)I" } : Jvm.MethodName)) ∈ lw_all := lw_g (lw_at lw_m5 77 rfl) rfl
theorem q1137 : (Jvm.Cond.static ({ cls := "jdk/internal/util/ArraysSupport", name := "hashCode", desc := "(I[SII)I" } : Jvm.MethodName)) ∈ lw_all := lw_g (lw_at lw_m5 78 rfl) rfl
theorem q1138 : (Jvm.Cond.code ({ cls := "jdk/internal/util/ArraysSupport", name := "hashCode", desc := "(I[SII)I" } : Jvm.MethodName) prog_99_method_8_code (6 : Nat) (Option.some Jvm.ClassFile.FieldType.int)) ∈ lw_all := lw_g (lw_at lw_m5 79 rfl) rfl
theorem q1139 : (Jvm.Cond.classLink "jdk/internal/util/ArraysSupport" (82 : Nat) "[I") ∈ lw_all := lw_g (lw_at lw_m5 80 rfl) rfl
theorem q1140 : (Jvm.Cond.methodLink "jdk/internal/util/ArraysSupport" (84 : Nat) ({ cls := "jdk/internal/util/ArraysSupport", name := "hashCode", desc := "(I[III)I" } : Jvm.MethodName)) ∈ lw_all := lw_g (lw_at lw_m5 81 rfl) rfl
theorem q1141 : (Jvm.Cond.static ({ cls := "jdk/internal/util/ArraysSupport", name := "hashCode", desc := "(I[III)I" } : Jvm.MethodName)) ∈ lw_all := lw_g (lw_at lw_m5 82 rfl) rfl
theorem q1142 : (Jvm.Cond.code ({ cls := "jdk/internal/util/ArraysSupport", name := "hashCode", desc := "(I[III)I" } : Jvm.MethodName) prog_99_method_9_code (6 : Nat) (Option.some Jvm.ClassFile.FieldType.int)) ∈ lw_all := lw_g (lw_at lw_m5 83 rfl) rfl
theorem q1143 : (Jvm.Cond.classLink "jdk/internal/util/ArraysSupport" (87 : Nat) "java/lang/IllegalArgumentException") ∈ lw_all := lw_g (lw_at lw_m5 84 rfl) rfl
theorem q1144 : (Jvm.Cond.classLink "jdk/internal/util/ArraysSupport" (89 : Nat) "java/lang/StringBuilder") ∈ lw_all := lw_g (lw_at lw_m5 85 rfl) rfl
theorem q1145 : (Jvm.Cond.methodLink "jdk/internal/util/ArraysSupport" (91 : Nat) ({ cls := "java/lang/StringBuilder", name := "<init>", desc := "()V" } : Jvm.MethodName)) ∈ lw_all := lw_g (lw_at lw_m5 86 rfl) rfl
theorem q1146 : (Jvm.Cond.stringRef "jdk/internal/util/ArraysSupport" (92 : Nat) "unrecognized basic type: ") ∈ lw_tbl := lw_at lw_m5 87 rfl
theorem q1147 : (Jvm.Cond.methodLink "jdk/internal/util/ArraysSupport" (94 : Nat) ({ cls := "java/lang/StringBuilder", name := "append", desc := "(Ljava/lang/String;)Ljava/lang/StringBuilder;" } : Jvm.MethodName)) ∈ lw_all := lw_g (lw_at lw_m5 88 rfl) rfl
theorem q1148 : (Jvm.Cond.methodLink "jdk/internal/util/ArraysSupport" (98 : Nat) ({ cls := "java/lang/StringBuilder", name := "append", desc := "(I)Ljava/lang/StringBuilder;" } : Jvm.MethodName)) ∈ lw_all := lw_g (lw_at lw_m5 89 rfl) rfl
theorem q1149 : (Jvm.Cond.methodLink "jdk/internal/util/ArraysSupport" (101 : Nat) ({ cls := "java/lang/StringBuilder", name := "toString", desc := "()Ljava/lang/String;" } : Jvm.MethodName)) ∈ lw_all := lw_g (lw_at lw_m5 90 rfl) rfl
theorem q1150 : (Jvm.Cond.methodLink "jdk/internal/util/ArraysSupport" (105 : Nat) ({ cls := "java/lang/IllegalArgumentException", name := "<init>", desc := "(Ljava/lang/String;)V" } : Jvm.MethodName)) ∈ lw_all := lw_g (lw_at lw_m5 91 rfl) rfl
theorem q1383 : (Jvm.Cond.static ({ cls := "jdk/internal/util/ArraysSupport", name := "mismatch", desc := "([B[BI)I" } : Jvm.MethodName)) ∈ lw_all := lw_g (lw_at lw_m6 84 rfl) rfl
theorem q1384 : (Jvm.Cond.code ({ cls := "jdk/internal/util/ArraysSupport", name := "mismatch", desc := "([B[BI)I" } : Jvm.MethodName) prog_99_method_13_code (4 : Nat) (Option.some Jvm.ClassFile.FieldType.int)) ∈ lw_all := lw_g (lw_at lw_m6 85 rfl) rfl
theorem q1385 : (Jvm.Cond.fieldLink "jdk/internal/util/ArraysSupport" (126 : Nat) "jdk/internal/misc/Unsafe" "ARRAY_BYTE_BASE_OFFSET" "I") ∈ lw_all := lw_g (lw_at lw_m6 86 rfl) rfl
theorem q1387 : (Jvm.Cond.fieldLink "jdk/internal/util/ArraysSupport" (129 : Nat) "jdk/internal/util/ArraysSupport" "LOG2_ARRAY_BYTE_INDEX_SCALE" "I") ∈ lw_all := lw_g (lw_at lw_m6 88 rfl) rfl
theorem q1388 : (Jvm.Cond.laysStatic "jdk/internal/util/ArraysSupport" "LOG2_ARRAY_BYTE_INDEX_SCALE" "I") ∈ lw_tbl := lw_at lw_m6 89 rfl
theorem q1389 : (Jvm.Cond.methodLink "jdk/internal/util/ArraysSupport" (122 : Nat) ({ cls := "jdk/internal/util/ArraysSupport", name := "vectorizedMismatch", desc := "(Ljava/lang/Object;JLjava/lang/Object;JII)I" } : Jvm.MethodName)) ∈ lw_all := lw_g (lw_at lw_m6 90 rfl) rfl
theorem q1390 : (Jvm.Cond.static ({ cls := "jdk/internal/util/ArraysSupport", name := "vectorizedMismatch", desc := "(Ljava/lang/Object;JLjava/lang/Object;JII)I" } : Jvm.MethodName)) ∈ lw_all := lw_g (lw_at lw_m6 91 rfl) rfl
theorem q1391 : (Jvm.Cond.code ({ cls := "jdk/internal/util/ArraysSupport", name := "vectorizedMismatch", desc := "(Ljava/lang/Object;JLjava/lang/Object;JII)I" } : Jvm.MethodName) prog_99_method_3_code (19 : Nat) (Option.some Jvm.ClassFile.FieldType.int)) ∈ lw_all := lw_g (lw_at lw_m6 92 rfl) rfl
theorem q1392 : (Jvm.Cond.fieldLink "jdk/internal/util/ArraysSupport" (20 : Nat) "jdk/internal/util/ArraysSupport" "LOG2_ARRAY_LONG_INDEX_SCALE" "I") ∈ lw_all := lw_g (lw_at lw_m6 93 rfl) rfl
theorem q1393 : (Jvm.Cond.laysStatic "jdk/internal/util/ArraysSupport" "LOG2_ARRAY_LONG_INDEX_SCALE" "I") ∈ lw_tbl := lw_at lw_m6 94 rfl
theorem q1394 : (Jvm.Cond.fieldLink "jdk/internal/util/ArraysSupport" (26 : Nat) "jdk/internal/util/ArraysSupport" "U" "Ljdk/internal/misc/Unsafe;") ∈ lw_all := lw_g (lw_at lw_m6 95 rfl) rfl
theorem q1395 : (Jvm.Cond.laysStatic "jdk/internal/util/ArraysSupport" "U" "Ljdk/internal/misc/Unsafe;") ∈ lw_tbl := lw_at lw_m6 96 rfl
theorem q1396 : (Jvm.Cond.methodLink "jdk/internal/util/ArraysSupport" (30 : Nat) ({ cls := "jdk/internal/misc/Unsafe", name := "getLongUnaligned", desc := "(Ljava/lang/Object;J)J" } : Jvm.MethodName)) ∈ lw_all := lw_g (lw_at lw_m6 97 rfl) rfl
theorem q1448 : (Jvm.Cond.fieldLink "jdk/internal/util/ArraysSupport" (36 : Nat) "jdk/internal/util/ArraysSupport" "BIG_ENDIAN" "Z") ∈ lw_all := lw_g (lw_at lw_m6 149 rfl) rfl
theorem q1449 : (Jvm.Cond.laysStatic "jdk/internal/util/ArraysSupport" "BIG_ENDIAN" "Z") ∈ lw_tbl := lw_at lw_m6 150 rfl
theorem q1450 : (Jvm.Cond.methodLink "jdk/internal/util/ArraysSupport" (40 : Nat) ({ cls := "java/lang/Long", name := "numberOfLeadingZeros", desc := "(J)I" } : Jvm.MethodName)) ∈ lw_all := lw_g (lw_at lw_m6 151 rfl) rfl
theorem q1457 : (Jvm.Cond.fieldLink "jdk/internal/util/ArraysSupport" (46 : Nat) "jdk/internal/util/ArraysSupport" "LOG2_BYTE_BIT_SIZE" "I") ∈ lw_all := lw_g (lw_at lw_m6 158 rfl) rfl
theorem q1458 : (Jvm.Cond.laysStatic "jdk/internal/util/ArraysSupport" "LOG2_BYTE_BIT_SIZE" "I") ∈ lw_tbl := lw_at lw_m6 159 rfl
theorem q1459 : (Jvm.Cond.methodLink "jdk/internal/util/ArraysSupport" (49 : Nat) ({ cls := "java/lang/Long", name := "numberOfTrailingZeros", desc := "(J)I" } : Jvm.MethodName)) ∈ lw_all := lw_g (lw_at lw_m6 160 rfl) rfl
theorem q1465 : (Jvm.Cond.fieldLink "jdk/internal/util/ArraysSupport" (51 : Nat) "jdk/internal/util/ArraysSupport" "LOG2_ARRAY_INT_INDEX_SCALE" "I") ∈ lw_all := lw_g (lw_at lw_m6 166 rfl) rfl
theorem q1466 : (Jvm.Cond.laysStatic "jdk/internal/util/ArraysSupport" "LOG2_ARRAY_INT_INDEX_SCALE" "I") ∈ lw_tbl := lw_at lw_m6 167 rfl
theorem q1467 : (Jvm.Cond.methodLink "jdk/internal/util/ArraysSupport" (54 : Nat) ({ cls := "jdk/internal/misc/Unsafe", name := "getIntUnaligned", desc := "(Ljava/lang/Object;J)I" } : Jvm.MethodName)) ∈ lw_all := lw_g (lw_at lw_m6 168 rfl) rfl
theorem q1484 : (Jvm.Cond.methodLink "jdk/internal/util/ArraysSupport" (58 : Nat) ({ cls := "java/lang/Integer", name := "numberOfLeadingZeros", desc := "(I)I" } : Jvm.MethodName)) ∈ lw_all := lw_g (lw_at lw_m6 185 rfl) rfl
theorem q1485 : (Jvm.Cond.methodLink "jdk/internal/util/ArraysSupport" (11 : Nat) ({ cls := "java/lang/Integer", name := "numberOfTrailingZeros", desc := "(I)I" } : Jvm.MethodName)) ∈ lw_all := lw_g (lw_at lw_m6 186 rfl) rfl

/-! java/lang/Math -/
def RJ14 : String := "java/lang/Math"
abbrev cJ14_max : ByteArray := prog_65_method_65_code
def yJ14_max : MethodName := ⟨RJ14, "max", "(II)I"⟩
def dkwJ14_max_0 : List UInt8 := [26, 27, 161, 0, 7, 26, 167, 0, 4, 27, 172]
abbrev dktJ14_max_0 : List UInt8 := dkwJ14_max_0 ++ []
theorem dksJ14_max_0 : cJ14_max.data.toList.drop 0 = dktJ14_max_0 := by decide +kernel
theorem dJ14_max_0 : decode cJ14_max 0 = .ok (.iload_n 0, 1) := dk_26 (dk_at dksJ14_max_0 0 rfl rfl)
theorem dJ14_max_1 : decode cJ14_max 1 = .ok (.iload_n 1, 1) := dk_27 (dk_at dksJ14_max_0 1 rfl rfl)
theorem dJ14_max_2 : decode cJ14_max 2 = .ok (.if_icmp .lt 7, 3) := dk_161 0 7 (dk_at dksJ14_max_0 2 rfl rfl)
theorem dJ14_max_5 : decode cJ14_max 5 = .ok (.iload_n 0, 1) := dk_26 (dk_at dksJ14_max_0 5 rfl rfl)
theorem dJ14_max_6 : decode cJ14_max 6 = .ok (.goto 4, 3) := dk_167 0 4 (dk_at dksJ14_max_0 6 rfl rfl)
theorem dJ14_max_9 : decode cJ14_max 9 = .ok (.iload_n 1, 1) := dk_27 (dk_at dksJ14_max_0 9 rfl rfl)
theorem dJ14_max_10 : decode cJ14_max 10 = .ok (.ireturn, 1) := dk_172 (dk_at dksJ14_max_0 10 rfl rfl)
abbrev cJ14_min : ByteArray := prog_65_method_69_code
def yJ14_min : MethodName := ⟨RJ14, "min", "(II)I"⟩
def dkwJ14_min_0 : List UInt8 := [26, 27, 163, 0, 7, 26, 167, 0, 4, 27, 172]
abbrev dktJ14_min_0 : List UInt8 := dkwJ14_min_0 ++ []
theorem dksJ14_min_0 : cJ14_min.data.toList.drop 0 = dktJ14_min_0 := by decide +kernel
theorem dJ14_min_0 : decode cJ14_min 0 = .ok (.iload_n 0, 1) := dk_26 (dk_at dksJ14_min_0 0 rfl rfl)
theorem dJ14_min_1 : decode cJ14_min 1 = .ok (.iload_n 1, 1) := dk_27 (dk_at dksJ14_min_0 1 rfl rfl)
theorem dJ14_min_2 : decode cJ14_min 2 = .ok (.if_icmp .gt 7, 3) := dk_163 0 7 (dk_at dksJ14_min_0 2 rfl rfl)
theorem dJ14_min_5 : decode cJ14_min 5 = .ok (.iload_n 0, 1) := dk_26 (dk_at dksJ14_min_0 5 rfl rfl)
theorem dJ14_min_6 : decode cJ14_min 6 = .ok (.goto 4, 3) := dk_167 0 4 (dk_at dksJ14_min_0 6 rfl rfl)
theorem dJ14_min_9 : decode cJ14_min 9 = .ok (.iload_n 1, 1) := dk_27 (dk_at dksJ14_min_0 9 rfl rfl)
theorem dJ14_min_10 : decode cJ14_min 10 = .ok (.ireturn, 1) := dk_172 (dk_at dksJ14_min_0 10 rfl rfl)
abbrev cJ14_floorMod : ByteArray := prog_65_method_50_code
def yJ14_floorMod : MethodName := ⟨RJ14, "floorMod", "(II)I"⟩
def dkwJ14_floorMod_0 : List UInt8 := [26, 27, 112, 61, 26, 27, 130, 156, 0, 11, 28, 153, 0, 7, 28, 27, 96, 172, 28, 172]
abbrev dktJ14_floorMod_0 : List UInt8 := dkwJ14_floorMod_0 ++ []
theorem dksJ14_floorMod_0 : cJ14_floorMod.data.toList.drop 0 = dktJ14_floorMod_0 := by decide +kernel
theorem dJ14_floorMod_0 : decode cJ14_floorMod 0 = .ok (.iload_n 0, 1) := dk_26 (dk_at dksJ14_floorMod_0 0 rfl rfl)
theorem dJ14_floorMod_1 : decode cJ14_floorMod 1 = .ok (.iload_n 1, 1) := dk_27 (dk_at dksJ14_floorMod_0 1 rfl rfl)
theorem dJ14_floorMod_2 : decode cJ14_floorMod 2 = .ok (.irem, 1) := dk_112 (dk_at dksJ14_floorMod_0 2 rfl rfl)
theorem dJ14_floorMod_3 : decode cJ14_floorMod 3 = .ok (.istore_n 2, 1) := dk_61 (dk_at dksJ14_floorMod_0 3 rfl rfl)
theorem dJ14_floorMod_4 : decode cJ14_floorMod 4 = .ok (.iload_n 0, 1) := dk_26 (dk_at dksJ14_floorMod_0 4 rfl rfl)
theorem dJ14_floorMod_5 : decode cJ14_floorMod 5 = .ok (.iload_n 1, 1) := dk_27 (dk_at dksJ14_floorMod_0 5 rfl rfl)
theorem dJ14_floorMod_6 : decode cJ14_floorMod 6 = .ok (.ixor, 1) := dk_130 (dk_at dksJ14_floorMod_0 6 rfl rfl)
theorem dJ14_floorMod_7 : decode cJ14_floorMod 7 = .ok (.ifCond .ge 11, 3) := dk_156 0 11 (dk_at dksJ14_floorMod_0 7 rfl rfl)
theorem dJ14_floorMod_10 : decode cJ14_floorMod 10 = .ok (.iload_n 2, 1) := dk_28 (dk_at dksJ14_floorMod_0 10 rfl rfl)
theorem dJ14_floorMod_11 : decode cJ14_floorMod 11 = .ok (.ifCond .eq 7, 3) := dk_153 0 7 (dk_at dksJ14_floorMod_0 11 rfl rfl)
theorem dJ14_floorMod_14 : decode cJ14_floorMod 14 = .ok (.iload_n 2, 1) := dk_28 (dk_at dksJ14_floorMod_0 14 rfl rfl)
theorem dJ14_floorMod_15 : decode cJ14_floorMod 15 = .ok (.iload_n 1, 1) := dk_27 (dk_at dksJ14_floorMod_0 15 rfl rfl)
theorem dJ14_floorMod_16 : decode cJ14_floorMod 16 = .ok (.iadd, 1) := dk_96 (dk_at dksJ14_floorMod_0 16 rfl rfl)
theorem dJ14_floorMod_17 : decode cJ14_floorMod 17 = .ok (.ireturn, 1) := dk_172 (dk_at dksJ14_floorMod_0 17 rfl rfl)
theorem dJ14_floorMod_18 : decode cJ14_floorMod 18 = .ok (.iload_n 2, 1) := dk_28 (dk_at dksJ14_floorMod_0 18 rfl rfl)
theorem dJ14_floorMod_19 : decode cJ14_floorMod 19 = .ok (.ireturn, 1) := dk_172 (dk_at dksJ14_floorMod_0 19 rfl rfl)
theorem q124 : (Jvm.Cond.initialized "java/lang/Math") ∈ lw_all := lw_g (lw_at lw_m1 25 rfl) rfl
theorem q407 : (Jvm.Cond.static ({ cls := "java/lang/Math", name := "max", desc := "(II)I" } : Jvm.MethodName)) ∈ lw_all := lw_g (lw_at lw_m2 68 rfl) rfl
theorem q408 : (Jvm.Cond.code ({ cls := "java/lang/Math", name := "max", desc := "(II)I" } : Jvm.MethodName) prog_65_method_65_code (2 : Nat) (Option.some Jvm.ClassFile.FieldType.int)) ∈ lw_all := lw_g (lw_at lw_m2 69 rfl) rfl
theorem q425 : (Jvm.Cond.static ({ cls := "java/lang/Math", name := "min", desc := "(II)I" } : Jvm.MethodName)) ∈ lw_all := lw_g (lw_at lw_m2 86 rfl) rfl
theorem q426 : (Jvm.Cond.code ({ cls := "java/lang/Math", name := "min", desc := "(II)I" } : Jvm.MethodName) prog_65_method_69_code (2 : Nat) (Option.some Jvm.ClassFile.FieldType.int)) ∈ lw_all := lw_g (lw_at lw_m2 87 rfl) rfl
theorem q3312 : (Jvm.Cond.static ({ cls := "java/lang/Math", name := "floorMod", desc := "(II)I" } : Jvm.MethodName)) ∈ lw_all := lw_g (lw_at lw_m14 93 rfl) rfl
theorem q3313 : (Jvm.Cond.code ({ cls := "java/lang/Math", name := "floorMod", desc := "(II)I" } : Jvm.MethodName) prog_65_method_50_code (3 : Nat) (Option.some Jvm.ClassFile.FieldType.int)) ∈ lw_all := lw_g (lw_at lw_m14 94 rfl) rfl

/-! java/util/Arrays -/
def RJ15 : String := "java/util/Arrays"
abbrev cJ15_copyOf : ByteArray := prog_82_method_121_code
def yJ15_copyOf : MethodName := ⟨RJ15, "copyOf", "([BI)[B"⟩
def dkwJ15_copyOf_1 : List UInt8 := [27, 184, 1, 48, 184, 0, 150, 44, 176]
abbrev dktJ15_copyOf_1 : List UInt8 := dkwJ15_copyOf_1 ++ []
def dkwJ15_copyOf_0 : List UInt8 := [27, 42, 190, 160, 0, 11, 42, 182, 1, 54, 192, 1, 55, 176, 27, 188, 8, 77, 42, 3, 44, 3, 42, 190]
abbrev dktJ15_copyOf_0 : List UInt8 := dkwJ15_copyOf_0 ++ dktJ15_copyOf_1
theorem dksJ15_copyOf_0 : cJ15_copyOf.data.toList.drop 0 = dktJ15_copyOf_0 := by decide +kernel
theorem dksJ15_copyOf_1 : cJ15_copyOf.data.toList.drop 24 = dktJ15_copyOf_1 := dk_seg dksJ15_copyOf_0 24 rfl rfl
theorem dJ15_copyOf_0 : decode cJ15_copyOf 0 = .ok (.iload_n 1, 1) := dk_27 (dk_at dksJ15_copyOf_0 0 rfl rfl)
theorem dJ15_copyOf_1 : decode cJ15_copyOf 1 = .ok (.aload_n 0, 1) := dk_42 (dk_at dksJ15_copyOf_0 1 rfl rfl)
theorem dJ15_copyOf_2 : decode cJ15_copyOf 2 = .ok (.arraylength, 1) := dk_190 (dk_at dksJ15_copyOf_0 2 rfl rfl)
theorem dJ15_copyOf_3 : decode cJ15_copyOf 3 = .ok (.if_icmp .ne 11, 3) := dk_160 0 11 (dk_at dksJ15_copyOf_0 3 rfl rfl)
theorem dJ15_copyOf_6 : decode cJ15_copyOf 6 = .ok (.aload_n 0, 1) := dk_42 (dk_at dksJ15_copyOf_0 6 rfl rfl)
theorem dJ15_copyOf_7 : decode cJ15_copyOf 7 = .ok (.invokevirtual 310, 3) := dk_182 1 54 (dk_at dksJ15_copyOf_0 7 rfl rfl)
theorem dJ15_copyOf_10 : decode cJ15_copyOf 10 = .ok (.checkcast 311, 3) := dk_192 1 55 (dk_at dksJ15_copyOf_0 10 rfl rfl)
theorem dJ15_copyOf_13 : decode cJ15_copyOf 13 = .ok (.areturn, 1) := dk_176 (dk_at dksJ15_copyOf_0 13 rfl rfl)
theorem dJ15_copyOf_14 : decode cJ15_copyOf 14 = .ok (.iload_n 1, 1) := dk_27 (dk_at dksJ15_copyOf_0 14 rfl rfl)
theorem dJ15_copyOf_15 : decode cJ15_copyOf 15 = .ok (.newarray .byte, 2) := dk_188_8 (dk_at dksJ15_copyOf_0 15 rfl rfl)
theorem dJ15_copyOf_17 : decode cJ15_copyOf 17 = .ok (.astore_n 2, 1) := dk_77 (dk_at dksJ15_copyOf_0 17 rfl rfl)
theorem dJ15_copyOf_18 : decode cJ15_copyOf 18 = .ok (.aload_n 0, 1) := dk_42 (dk_at dksJ15_copyOf_0 18 rfl rfl)
theorem dJ15_copyOf_19 : decode cJ15_copyOf 19 = .ok (.iconst 0, 1) := dk_3 (dk_at dksJ15_copyOf_0 19 rfl rfl)
theorem dJ15_copyOf_20 : decode cJ15_copyOf 20 = .ok (.aload_n 2, 1) := dk_44 (dk_at dksJ15_copyOf_0 20 rfl rfl)
theorem dJ15_copyOf_21 : decode cJ15_copyOf 21 = .ok (.iconst 0, 1) := dk_3 (dk_at dksJ15_copyOf_0 21 rfl rfl)
theorem dJ15_copyOf_22 : decode cJ15_copyOf 22 = .ok (.aload_n 0, 1) := dk_42 (dk_at dksJ15_copyOf_0 22 rfl rfl)
theorem dJ15_copyOf_23 : decode cJ15_copyOf 23 = .ok (.arraylength, 1) := dk_190 (dk_at dksJ15_copyOf_0 23 rfl rfl)
theorem dJ15_copyOf_24 : decode cJ15_copyOf 24 = .ok (.iload_n 1, 1) := dk_27 (dk_at dksJ15_copyOf_1 0 rfl rfl)
theorem dJ15_copyOf_25 : decode cJ15_copyOf 25 = .ok (.invokestatic 304, 3) := dk_184 1 48 (dk_at dksJ15_copyOf_1 1 rfl rfl)
theorem dJ15_copyOf_28 : decode cJ15_copyOf 28 = .ok (.invokestatic 150, 3) := dk_184 0 150 (dk_at dksJ15_copyOf_1 4 rfl rfl)
theorem dJ15_copyOf_31 : decode cJ15_copyOf 31 = .ok (.aload_n 2, 1) := dk_44 (dk_at dksJ15_copyOf_1 7 rfl rfl)
theorem dJ15_copyOf_32 : decode cJ15_copyOf 32 = .ok (.areturn, 1) := dk_176 (dk_at dksJ15_copyOf_1 8 rfl rfl)
abbrev cJ15_copyOfRange : ByteArray := prog_82_method_132_code
def yJ15_copyOfRange : MethodName := ⟨RJ15, "copyOfRange", "([BII)[B"⟩
def dkwJ15_copyOfRange_1 : List UInt8 := [176]
abbrev dktJ15_copyOfRange_1 : List UInt8 := dkwJ15_copyOfRange_1 ++ []
def dkwJ15_copyOfRange_0 : List UInt8 := [27, 154, 0, 9, 28, 42, 190, 159, 0, 10, 42, 27, 28, 184, 1, 83, 176, 42, 182, 1, 54, 192, 1, 55]
abbrev dktJ15_copyOfRange_0 : List UInt8 := dkwJ15_copyOfRange_0 ++ dktJ15_copyOfRange_1
theorem dksJ15_copyOfRange_0 : cJ15_copyOfRange.data.toList.drop 0 = dktJ15_copyOfRange_0 := by decide +kernel
theorem dksJ15_copyOfRange_1 : cJ15_copyOfRange.data.toList.drop 24 = dktJ15_copyOfRange_1 := dk_seg dksJ15_copyOfRange_0 24 rfl rfl
theorem dJ15_copyOfRange_0 : decode cJ15_copyOfRange 0 = .ok (.iload_n 1, 1) := dk_27 (dk_at dksJ15_copyOfRange_0 0 rfl rfl)
theorem dJ15_copyOfRange_1 : decode cJ15_copyOfRange 1 = .ok (.ifCond .ne 9, 3) := dk_154 0 9 (dk_at dksJ15_copyOfRange_0 1 rfl rfl)
theorem dJ15_copyOfRange_4 : decode cJ15_copyOfRange 4 = .ok (.iload_n 2, 1) := dk_28 (dk_at dksJ15_copyOfRange_0 4 rfl rfl)
theorem dJ15_copyOfRange_5 : decode cJ15_copyOfRange 5 = .ok (.aload_n 0, 1) := dk_42 (dk_at dksJ15_copyOfRange_0 5 rfl rfl)
theorem dJ15_copyOfRange_6 : decode cJ15_copyOfRange 6 = .ok (.arraylength, 1) := dk_190 (dk_at dksJ15_copyOfRange_0 6 rfl rfl)
theorem dJ15_copyOfRange_7 : decode cJ15_copyOfRange 7 = .ok (.if_icmp .eq 10, 3) := dk_159 0 10 (dk_at dksJ15_copyOfRange_0 7 rfl rfl)
theorem dJ15_copyOfRange_10 : decode cJ15_copyOfRange 10 = .ok (.aload_n 0, 1) := dk_42 (dk_at dksJ15_copyOfRange_0 10 rfl rfl)
theorem dJ15_copyOfRange_11 : decode cJ15_copyOfRange 11 = .ok (.iload_n 1, 1) := dk_27 (dk_at dksJ15_copyOfRange_0 11 rfl rfl)
theorem dJ15_copyOfRange_12 : decode cJ15_copyOfRange 12 = .ok (.iload_n 2, 1) := dk_28 (dk_at dksJ15_copyOfRange_0 12 rfl rfl)
theorem dJ15_copyOfRange_13 : decode cJ15_copyOfRange 13 = .ok (.invokestatic 339, 3) := dk_184 1 83 (dk_at dksJ15_copyOfRange_0 13 rfl rfl)
theorem dJ15_copyOfRange_16 : decode cJ15_copyOfRange 16 = .ok (.areturn, 1) := dk_176 (dk_at dksJ15_copyOfRange_0 16 rfl rfl)
theorem dJ15_copyOfRange_17 : decode cJ15_copyOfRange 17 = .ok (.aload_n 0, 1) := dk_42 (dk_at dksJ15_copyOfRange_0 17 rfl rfl)
theorem dJ15_copyOfRange_18 : decode cJ15_copyOfRange 18 = .ok (.invokevirtual 310, 3) := dk_182 1 54 (dk_at dksJ15_copyOfRange_0 18 rfl rfl)
theorem dJ15_copyOfRange_21 : decode cJ15_copyOfRange 21 = .ok (.checkcast 311, 3) := dk_192 1 55 (dk_at dksJ15_copyOfRange_0 21 rfl rfl)
theorem dJ15_copyOfRange_24 : decode cJ15_copyOfRange 24 = .ok (.areturn, 1) := dk_176 (dk_at dksJ15_copyOfRange_1 0 rfl rfl)
abbrev cJ15_copyOfRangeByte : ByteArray := prog_82_method_133_code
def yJ15_copyOfRangeByte : MethodName := ⟨RJ15, "copyOfRangeByte", "([BII)[B"⟩
def dkwJ15_copyOfRangeByte_1 : List UInt8 := [184, 1, 48, 184, 0, 150, 25, 4, 176]
abbrev dktJ15_copyOfRangeByte_1 : List UInt8 := dkwJ15_copyOfRangeByte_1 ++ []
def dkwJ15_copyOfRangeByte_0 : List UInt8 := [27, 28, 184, 1, 87, 28, 27, 100, 62, 29, 188, 8, 58, 4, 42, 27, 25, 4, 3, 42, 190, 27, 100, 29]
abbrev dktJ15_copyOfRangeByte_0 : List UInt8 := dkwJ15_copyOfRangeByte_0 ++ dktJ15_copyOfRangeByte_1
theorem dksJ15_copyOfRangeByte_0 : cJ15_copyOfRangeByte.data.toList.drop 0 = dktJ15_copyOfRangeByte_0 := by decide +kernel
theorem dksJ15_copyOfRangeByte_1 : cJ15_copyOfRangeByte.data.toList.drop 24 = dktJ15_copyOfRangeByte_1 := dk_seg dksJ15_copyOfRangeByte_0 24 rfl rfl
theorem dJ15_copyOfRangeByte_0 : decode cJ15_copyOfRangeByte 0 = .ok (.iload_n 1, 1) := dk_27 (dk_at dksJ15_copyOfRangeByte_0 0 rfl rfl)
theorem dJ15_copyOfRangeByte_1 : decode cJ15_copyOfRangeByte 1 = .ok (.iload_n 2, 1) := dk_28 (dk_at dksJ15_copyOfRangeByte_0 1 rfl rfl)
theorem dJ15_copyOfRangeByte_2 : decode cJ15_copyOfRangeByte 2 = .ok (.invokestatic 343, 3) := dk_184 1 87 (dk_at dksJ15_copyOfRangeByte_0 2 rfl rfl)
theorem dJ15_copyOfRangeByte_5 : decode cJ15_copyOfRangeByte 5 = .ok (.iload_n 2, 1) := dk_28 (dk_at dksJ15_copyOfRangeByte_0 5 rfl rfl)
theorem dJ15_copyOfRangeByte_6 : decode cJ15_copyOfRangeByte 6 = .ok (.iload_n 1, 1) := dk_27 (dk_at dksJ15_copyOfRangeByte_0 6 rfl rfl)
theorem dJ15_copyOfRangeByte_7 : decode cJ15_copyOfRangeByte 7 = .ok (.isub, 1) := dk_100 (dk_at dksJ15_copyOfRangeByte_0 7 rfl rfl)
theorem dJ15_copyOfRangeByte_8 : decode cJ15_copyOfRangeByte 8 = .ok (.istore_n 3, 1) := dk_62 (dk_at dksJ15_copyOfRangeByte_0 8 rfl rfl)
theorem dJ15_copyOfRangeByte_9 : decode cJ15_copyOfRangeByte 9 = .ok (.iload_n 3, 1) := dk_29 (dk_at dksJ15_copyOfRangeByte_0 9 rfl rfl)
theorem dJ15_copyOfRangeByte_10 : decode cJ15_copyOfRangeByte 10 = .ok (.newarray .byte, 2) := dk_188_8 (dk_at dksJ15_copyOfRangeByte_0 10 rfl rfl)
theorem dJ15_copyOfRangeByte_12 : decode cJ15_copyOfRangeByte 12 = .ok (.astore 4, 2) := dk_58 4 (dk_at dksJ15_copyOfRangeByte_0 12 rfl rfl)
theorem dJ15_copyOfRangeByte_14 : decode cJ15_copyOfRangeByte 14 = .ok (.aload_n 0, 1) := dk_42 (dk_at dksJ15_copyOfRangeByte_0 14 rfl rfl)
theorem dJ15_copyOfRangeByte_15 : decode cJ15_copyOfRangeByte 15 = .ok (.iload_n 1, 1) := dk_27 (dk_at dksJ15_copyOfRangeByte_0 15 rfl rfl)
theorem dJ15_copyOfRangeByte_16 : decode cJ15_copyOfRangeByte 16 = .ok (.aload 4, 2) := dk_25 4 (dk_at dksJ15_copyOfRangeByte_0 16 rfl rfl)
theorem dJ15_copyOfRangeByte_18 : decode cJ15_copyOfRangeByte 18 = .ok (.iconst 0, 1) := dk_3 (dk_at dksJ15_copyOfRangeByte_0 18 rfl rfl)
theorem dJ15_copyOfRangeByte_19 : decode cJ15_copyOfRangeByte 19 = .ok (.aload_n 0, 1) := dk_42 (dk_at dksJ15_copyOfRangeByte_0 19 rfl rfl)
theorem dJ15_copyOfRangeByte_20 : decode cJ15_copyOfRangeByte 20 = .ok (.arraylength, 1) := dk_190 (dk_at dksJ15_copyOfRangeByte_0 20 rfl rfl)
theorem dJ15_copyOfRangeByte_21 : decode cJ15_copyOfRangeByte 21 = .ok (.iload_n 1, 1) := dk_27 (dk_at dksJ15_copyOfRangeByte_0 21 rfl rfl)
theorem dJ15_copyOfRangeByte_22 : decode cJ15_copyOfRangeByte 22 = .ok (.isub, 1) := dk_100 (dk_at dksJ15_copyOfRangeByte_0 22 rfl rfl)
theorem dJ15_copyOfRangeByte_23 : decode cJ15_copyOfRangeByte 23 = .ok (.iload_n 3, 1) := dk_29 (dk_at dksJ15_copyOfRangeByte_0 23 rfl rfl)
theorem dJ15_copyOfRangeByte_24 : decode cJ15_copyOfRangeByte 24 = .ok (.invokestatic 304, 3) := dk_184 1 48 (dk_at dksJ15_copyOfRangeByte_1 0 rfl rfl)
theorem dJ15_copyOfRangeByte_27 : decode cJ15_copyOfRangeByte 27 = .ok (.invokestatic 150, 3) := dk_184 0 150 (dk_at dksJ15_copyOfRangeByte_1 3 rfl rfl)
theorem dJ15_copyOfRangeByte_30 : decode cJ15_copyOfRangeByte 30 = .ok (.aload 4, 2) := dk_25 4 (dk_at dksJ15_copyOfRangeByte_1 6 rfl rfl)
theorem dJ15_copyOfRangeByte_32 : decode cJ15_copyOfRangeByte 32 = .ok (.areturn, 1) := dk_176 (dk_at dksJ15_copyOfRangeByte_1 8 rfl rfl)
abbrev cJ15_checkLength : ByteArray := prog_82_method_131_code
def yJ15_checkLength : MethodName := ⟨RJ15, "checkLength", "(II)V"⟩
def dkwJ15_checkLength_1 : List UInt8 := [182, 0, 50, 27, 182, 0, 54, 182, 0, 61, 183, 0, 65, 191, 177]
abbrev dktJ15_checkLength_1 : List UInt8 := dkwJ15_checkLength_1 ++ []
def dkwJ15_checkLength_0 : List UInt8 := [27, 26, 162, 0, 35, 187, 0, 43, 89, 187, 0, 45, 89, 183, 0, 47, 26, 182, 0, 54, 19, 1, 81]
abbrev dktJ15_checkLength_0 : List UInt8 := dkwJ15_checkLength_0 ++ dktJ15_checkLength_1
theorem dksJ15_checkLength_0 : cJ15_checkLength.data.toList.drop 0 = dktJ15_checkLength_0 := by decide +kernel
theorem dksJ15_checkLength_1 : cJ15_checkLength.data.toList.drop 23 = dktJ15_checkLength_1 := dk_seg dksJ15_checkLength_0 23 rfl rfl
theorem dJ15_checkLength_0 : decode cJ15_checkLength 0 = .ok (.iload_n 1, 1) := dk_27 (dk_at dksJ15_checkLength_0 0 rfl rfl)
theorem dJ15_checkLength_1 : decode cJ15_checkLength 1 = .ok (.iload_n 0, 1) := dk_26 (dk_at dksJ15_checkLength_0 1 rfl rfl)
theorem dJ15_checkLength_2 : decode cJ15_checkLength 2 = .ok (.if_icmp .ge 35, 3) := dk_162 0 35 (dk_at dksJ15_checkLength_0 2 rfl rfl)
theorem dJ15_checkLength_5 : decode cJ15_checkLength 5 = .ok (.new 43, 3) := dk_187 0 43 (dk_at dksJ15_checkLength_0 5 rfl rfl)
theorem dJ15_checkLength_8 : decode cJ15_checkLength 8 = .ok (.dup, 1) := dk_89 (dk_at dksJ15_checkLength_0 8 rfl rfl)
theorem dJ15_checkLength_9 : decode cJ15_checkLength 9 = .ok (.new 45, 3) := dk_187 0 45 (dk_at dksJ15_checkLength_0 9 rfl rfl)
theorem dJ15_checkLength_12 : decode cJ15_checkLength 12 = .ok (.dup, 1) := dk_89 (dk_at dksJ15_checkLength_0 12 rfl rfl)
theorem dJ15_checkLength_13 : decode cJ15_checkLength 13 = .ok (.invokespecial 47, 3) := dk_183 0 47 (dk_at dksJ15_checkLength_0 13 rfl rfl)
theorem dJ15_checkLength_16 : decode cJ15_checkLength 16 = .ok (.iload_n 0, 1) := dk_26 (dk_at dksJ15_checkLength_0 16 rfl rfl)
theorem dJ15_checkLength_17 : decode cJ15_checkLength 17 = .ok (.invokevirtual 54, 3) := dk_182 0 54 (dk_at dksJ15_checkLength_0 17 rfl rfl)
theorem dJ15_checkLength_20 : decode cJ15_checkLength 20 = .ok (.ldc_w 337, 3) := dk_19 1 81 (dk_at dksJ15_checkLength_0 20 rfl rfl)
theorem dJ15_checkLength_23 : decode cJ15_checkLength 23 = .ok (.invokevirtual 50, 3) := dk_182 0 50 (dk_at dksJ15_checkLength_1 0 rfl rfl)
theorem dJ15_checkLength_26 : decode cJ15_checkLength 26 = .ok (.iload_n 1, 1) := dk_27 (dk_at dksJ15_checkLength_1 3 rfl rfl)
theorem dJ15_checkLength_27 : decode cJ15_checkLength 27 = .ok (.invokevirtual 54, 3) := dk_182 0 54 (dk_at dksJ15_checkLength_1 4 rfl rfl)
theorem dJ15_checkLength_30 : decode cJ15_checkLength 30 = .ok (.invokevirtual 61, 3) := dk_182 0 61 (dk_at dksJ15_checkLength_1 7 rfl rfl)
theorem dJ15_checkLength_33 : decode cJ15_checkLength 33 = .ok (.invokespecial 65, 3) := dk_183 0 65 (dk_at dksJ15_checkLength_1 10 rfl rfl)
theorem dJ15_checkLength_36 : decode cJ15_checkLength 36 = .ok (.athrow, 1) := dk_191 (dk_at dksJ15_checkLength_1 13 rfl rfl)
theorem dJ15_checkLength_37 : decode cJ15_checkLength 37 = .ok (.return_, 1) := dk_177 (dk_at dksJ15_checkLength_1 14 rfl rfl)
abbrev cJ15_copyOf_2 : ByteArray := prog_82_method_119_code
def yJ15_copyOf_2 : MethodName := ⟨RJ15, "copyOf", "([Ljava/lang/Object;I)[Ljava/lang/Object;"⟩
def dkwJ15_copyOf_2_0 : List UInt8 := [42, 27, 42, 182, 0, 86, 184, 1, 44, 176]
abbrev dktJ15_copyOf_2_0 : List UInt8 := dkwJ15_copyOf_2_0 ++ []
theorem dksJ15_copyOf_2_0 : cJ15_copyOf_2.data.toList.drop 0 = dktJ15_copyOf_2_0 := by decide +kernel
theorem dJ15_copyOf_2_0 : decode cJ15_copyOf_2 0 = .ok (.aload_n 0, 1) := dk_42 (dk_at dksJ15_copyOf_2_0 0 rfl rfl)
theorem dJ15_copyOf_2_1 : decode cJ15_copyOf_2 1 = .ok (.iload_n 1, 1) := dk_27 (dk_at dksJ15_copyOf_2_0 1 rfl rfl)
theorem dJ15_copyOf_2_2 : decode cJ15_copyOf_2 2 = .ok (.aload_n 0, 1) := dk_42 (dk_at dksJ15_copyOf_2_0 2 rfl rfl)
theorem dJ15_copyOf_2_3 : decode cJ15_copyOf_2 3 = .ok (.invokevirtual 86, 3) := dk_182 0 86 (dk_at dksJ15_copyOf_2_0 3 rfl rfl)
theorem dJ15_copyOf_2_6 : decode cJ15_copyOf_2 6 = .ok (.invokestatic 300, 3) := dk_184 1 44 (dk_at dksJ15_copyOf_2_0 6 rfl rfl)
theorem dJ15_copyOf_2_9 : decode cJ15_copyOf_2 9 = .ok (.areturn, 1) := dk_176 (dk_at dksJ15_copyOf_2_0 9 rfl rfl)
abbrev cJ15_copyOf_3 : ByteArray := prog_82_method_120_code
def yJ15_copyOf_3 : MethodName := ⟨RJ15, "copyOf", "([Ljava/lang/Object;ILjava/lang/Class;)[Ljava/lang/Object;"⟩
def dkwJ15_copyOf_3_1 : List UInt8 := [78, 42, 3, 45, 3, 42, 190, 27, 184, 1, 48, 184, 0, 150, 45, 176]
abbrev dktJ15_copyOf_3_1 : List UInt8 := dkwJ15_copyOf_3_1 ++ []
def dkwJ15_copyOf_3_0 : List UInt8 := [44, 18, 110, 166, 0, 10, 27, 189, 0, 2, 167, 0, 14, 44, 182, 0, 90, 27, 184, 0, 95, 192, 0, 110]
abbrev dktJ15_copyOf_3_0 : List UInt8 := dkwJ15_copyOf_3_0 ++ dktJ15_copyOf_3_1
theorem dksJ15_copyOf_3_0 : cJ15_copyOf_3.data.toList.drop 0 = dktJ15_copyOf_3_0 := by decide +kernel
theorem dksJ15_copyOf_3_1 : cJ15_copyOf_3.data.toList.drop 24 = dktJ15_copyOf_3_1 := dk_seg dksJ15_copyOf_3_0 24 rfl rfl
theorem dJ15_copyOf_3_0 : decode cJ15_copyOf_3 0 = .ok (.aload_n 2, 1) := dk_44 (dk_at dksJ15_copyOf_3_0 0 rfl rfl)
theorem dJ15_copyOf_3_1 : decode cJ15_copyOf_3 1 = .ok (.ldc 110, 2) := dk_18 110 (dk_at dksJ15_copyOf_3_0 1 rfl rfl)
theorem dJ15_copyOf_3_3 : decode cJ15_copyOf_3 3 = .ok (.if_acmp .ne 10, 3) := dk_166 0 10 (dk_at dksJ15_copyOf_3_0 3 rfl rfl)
theorem dJ15_copyOf_3_6 : decode cJ15_copyOf_3 6 = .ok (.iload_n 1, 1) := dk_27 (dk_at dksJ15_copyOf_3_0 6 rfl rfl)
theorem dJ15_copyOf_3_7 : decode cJ15_copyOf_3 7 = .ok (.anewarray 2, 3) := dk_189 0 2 (dk_at dksJ15_copyOf_3_0 7 rfl rfl)
theorem dJ15_copyOf_3_10 : decode cJ15_copyOf_3 10 = .ok (.goto 14, 3) := dk_167 0 14 (dk_at dksJ15_copyOf_3_0 10 rfl rfl)
theorem dJ15_copyOf_3_13 : decode cJ15_copyOf_3 13 = .ok (.aload_n 2, 1) := dk_44 (dk_at dksJ15_copyOf_3_0 13 rfl rfl)
theorem dJ15_copyOf_3_14 : decode cJ15_copyOf_3 14 = .ok (.invokevirtual 90, 3) := dk_182 0 90 (dk_at dksJ15_copyOf_3_0 14 rfl rfl)
theorem dJ15_copyOf_3_17 : decode cJ15_copyOf_3 17 = .ok (.iload_n 1, 1) := dk_27 (dk_at dksJ15_copyOf_3_0 17 rfl rfl)
theorem dJ15_copyOf_3_18 : decode cJ15_copyOf_3 18 = .ok (.invokestatic 95, 3) := dk_184 0 95 (dk_at dksJ15_copyOf_3_0 18 rfl rfl)
theorem dJ15_copyOf_3_21 : decode cJ15_copyOf_3 21 = .ok (.checkcast 110, 3) := dk_192 0 110 (dk_at dksJ15_copyOf_3_0 21 rfl rfl)
theorem dJ15_copyOf_3_24 : decode cJ15_copyOf_3 24 = .ok (.astore_n 3, 1) := dk_78 (dk_at dksJ15_copyOf_3_1 0 rfl rfl)
theorem dJ15_copyOf_3_25 : decode cJ15_copyOf_3 25 = .ok (.aload_n 0, 1) := dk_42 (dk_at dksJ15_copyOf_3_1 1 rfl rfl)
theorem dJ15_copyOf_3_26 : decode cJ15_copyOf_3 26 = .ok (.iconst 0, 1) := dk_3 (dk_at dksJ15_copyOf_3_1 2 rfl rfl)
theorem dJ15_copyOf_3_27 : decode cJ15_copyOf_3 27 = .ok (.aload_n 3, 1) := dk_45 (dk_at dksJ15_copyOf_3_1 3 rfl rfl)
theorem dJ15_copyOf_3_28 : decode cJ15_copyOf_3 28 = .ok (.iconst 0, 1) := dk_3 (dk_at dksJ15_copyOf_3_1 4 rfl rfl)
theorem dJ15_copyOf_3_29 : decode cJ15_copyOf_3 29 = .ok (.aload_n 0, 1) := dk_42 (dk_at dksJ15_copyOf_3_1 5 rfl rfl)
theorem dJ15_copyOf_3_30 : decode cJ15_copyOf_3 30 = .ok (.arraylength, 1) := dk_190 (dk_at dksJ15_copyOf_3_1 6 rfl rfl)
theorem dJ15_copyOf_3_31 : decode cJ15_copyOf_3 31 = .ok (.iload_n 1, 1) := dk_27 (dk_at dksJ15_copyOf_3_1 7 rfl rfl)
theorem dJ15_copyOf_3_32 : decode cJ15_copyOf_3 32 = .ok (.invokestatic 304, 3) := dk_184 1 48 (dk_at dksJ15_copyOf_3_1 8 rfl rfl)
theorem dJ15_copyOf_3_35 : decode cJ15_copyOf_3 35 = .ok (.invokestatic 150, 3) := dk_184 0 150 (dk_at dksJ15_copyOf_3_1 11 rfl rfl)
theorem dJ15_copyOf_3_38 : decode cJ15_copyOf_3 38 = .ok (.aload_n 3, 1) := dk_45 (dk_at dksJ15_copyOf_3_1 14 rfl rfl)
theorem dJ15_copyOf_3_39 : decode cJ15_copyOf_3 39 = .ok (.areturn, 1) := dk_176 (dk_at dksJ15_copyOf_3_1 15 rfl rfl)
theorem q125 : (Jvm.Cond.initialized "java/util/Arrays") ∈ lw_all := lw_g (lw_at lw_m1 26 rfl) rfl
theorem q415 : (Jvm.Cond.static ({ cls := "java/util/Arrays", name := "copyOf", desc := "([BI)[B" } : Jvm.MethodName)) ∈ lw_all := lw_g (lw_at lw_m2 76 rfl) rfl
theorem q416 : (Jvm.Cond.code ({ cls := "java/util/Arrays", name := "copyOf", desc := "([BI)[B" } : Jvm.MethodName) prog_82_method_121_code (3 : Nat) (Option.some (Jvm.ClassFile.FieldType.array Jvm.ClassFile.FieldType.byte))) ∈ lw_all := lw_g (lw_at lw_m2 77 rfl) rfl
theorem q417 : (Jvm.Cond.methodLink "java/util/Arrays" (310 : Nat) ({ cls := "[B", name := "clone", desc := "()Ljava/lang/Object;" } : Jvm.MethodName)) ∈ lw_all := lw_g (lw_at lw_m2 78 rfl) rfl
theorem q423 : (Jvm.Cond.classLink "java/util/Arrays" (311 : Nat) "[B") ∈ lw_all := lw_g (lw_at lw_m2 84 rfl) rfl
theorem q424 : (Jvm.Cond.methodLink "java/util/Arrays" (304 : Nat) ({ cls := "java/lang/Math", name := "min", desc := "(II)I" } : Jvm.MethodName)) ∈ lw_all := lw_g (lw_at lw_m2 85 rfl) rfl
theorem q427 : (Jvm.Cond.methodLink "java/util/Arrays" (150 : Nat) ({ cls := "java/lang/System", name := "arraycopy", desc := "(Ljava/lang/Object;ILjava/lang/Object;II)V" } : Jvm.MethodName)) ∈ lw_all := lw_g (lw_at lw_m2 88 rfl) rfl
theorem q511 : (Jvm.Cond.static ({ cls := "java/util/Arrays", name := "copyOfRange", desc := "([BII)[B" } : Jvm.MethodName)) ∈ lw_all := lw_g (lw_at lw_m2 172 rfl) rfl
theorem q512 : (Jvm.Cond.code ({ cls := "java/util/Arrays", name := "copyOfRange", desc := "([BII)[B" } : Jvm.MethodName) prog_82_method_132_code (3 : Nat) (Option.some (Jvm.ClassFile.FieldType.array Jvm.ClassFile.FieldType.byte))) ∈ lw_all := lw_g (lw_at lw_m2 173 rfl) rfl
theorem q513 : (Jvm.Cond.methodLink "java/util/Arrays" (339 : Nat) ({ cls := "java/util/Arrays", name := "copyOfRangeByte", desc := "([BII)[B" } : Jvm.MethodName)) ∈ lw_all := lw_g (lw_at lw_m2 174 rfl) rfl
theorem q514 : (Jvm.Cond.static ({ cls := "java/util/Arrays", name := "copyOfRangeByte", desc := "([BII)[B" } : Jvm.MethodName)) ∈ lw_all := lw_g (lw_at lw_m2 175 rfl) rfl
theorem q515 : (Jvm.Cond.code ({ cls := "java/util/Arrays", name := "copyOfRangeByte", desc := "([BII)[B" } : Jvm.MethodName) prog_82_method_133_code (5 : Nat) (Option.some (Jvm.ClassFile.FieldType.array Jvm.ClassFile.FieldType.byte))) ∈ lw_all := lw_g (lw_at lw_m2 176 rfl) rfl
theorem q516 : (Jvm.Cond.methodLink "java/util/Arrays" (343 : Nat) ({ cls := "java/util/Arrays", name := "checkLength", desc := "(II)V" } : Jvm.MethodName)) ∈ lw_all := lw_g (lw_at lw_m2 177 rfl) rfl
theorem q517 : (Jvm.Cond.static ({ cls := "java/util/Arrays", name := "checkLength", desc := "(II)V" } : Jvm.MethodName)) ∈ lw_all := lw_g (lw_at lw_m2 178 rfl) rfl
theorem q518 : (Jvm.Cond.code ({ cls := "java/util/Arrays", name := "checkLength", desc := "(II)V" } : Jvm.MethodName) prog_82_method_131_code (2 : Nat) (Option.none : Option Jvm.ClassFile.FieldType)) ∈ lw_all := lw_g (lw_at lw_m2 179 rfl) rfl
theorem q519 : (Jvm.Cond.classLink "java/util/Arrays" (43 : Nat) "java/lang/IllegalArgumentException") ∈ lw_all := lw_g (lw_at lw_m2 180 rfl) rfl
theorem q562 : (Jvm.Cond.classLink "java/util/Arrays" (45 : Nat) "java/lang/StringBuilder") ∈ lw_all := lw_g (lw_at lw_m2 223 rfl) rfl
theorem q563 : (Jvm.Cond.methodLink "java/util/Arrays" (47 : Nat) ({ cls := "java/lang/StringBuilder", name := "<init>", desc := "()V" } : Jvm.MethodName)) ∈ lw_all := lw_g (lw_at lw_m2 224 rfl) rfl
theorem q564 : (Jvm.Cond.methodLink "java/util/Arrays" (54 : Nat) ({ cls := "java/lang/StringBuilder", name := "append", desc := "(I)Ljava/lang/StringBuilder;" } : Jvm.MethodName)) ∈ lw_all := lw_g (lw_at lw_m2 225 rfl) rfl
theorem q598 : (Jvm.Cond.stringRef "java/util/Arrays" (337 : Nat) " > ") ∈ lw_tbl := lw_at lw_m3 19 rfl
theorem q599 : (Jvm.Cond.methodLink "java/util/Arrays" (50 : Nat) ({ cls := "java/lang/StringBuilder", name := "append", desc := "(Ljava/lang/String;)Ljava/lang/StringBuilder;" } : Jvm.MethodName)) ∈ lw_all := lw_g (lw_at lw_m3 20 rfl) rfl
theorem q637 : (Jvm.Cond.methodLink "java/util/Arrays" (61 : Nat) ({ cls := "java/lang/StringBuilder", name := "toString", desc := "()Ljava/lang/String;" } : Jvm.MethodName)) ∈ lw_all := lw_g (lw_at lw_m3 58 rfl) rfl
theorem q638 : (Jvm.Cond.methodLink "java/util/Arrays" (65 : Nat) ({ cls := "java/lang/IllegalArgumentException", name := "<init>", desc := "(Ljava/lang/String;)V" } : Jvm.MethodName)) ∈ lw_all := lw_g (lw_at lw_m3 59 rfl) rfl
theorem q780 : (Jvm.Cond.static ({ cls := "java/util/Arrays", name := "copyOf", desc := "([Ljava/lang/Object;I)[Ljava/lang/Object;" } : Jvm.MethodName)) ∈ lw_all := lw_g (lw_at lw_m3 201 rfl) rfl
theorem q781 : (Jvm.Cond.code ({ cls := "java/util/Arrays", name := "copyOf", desc := "([Ljava/lang/Object;I)[Ljava/lang/Object;" } : Jvm.MethodName) prog_82_method_119_code (2 : Nat) (Option.some (Jvm.ClassFile.FieldType.array (Jvm.ClassFile.FieldType.object "java/lang/Object")))) ∈ lw_all := lw_g (lw_at lw_m3 202 rfl) rfl
theorem q782 : (Jvm.Cond.methodLink "java/util/Arrays" (86 : Nat) ({ cls := "java/lang/Object", name := "getClass", desc := "()Ljava/lang/Class;" } : Jvm.MethodName)) ∈ lw_all := lw_g (lw_at lw_m3 203 rfl) rfl
theorem q842 : (Jvm.Cond.methodLink "java/util/Arrays" (300 : Nat) ({ cls := "java/util/Arrays", name := "copyOf", desc := "([Ljava/lang/Object;ILjava/lang/Class;)[Ljava/lang/Object;" } : Jvm.MethodName)) ∈ lw_all := lw_g (lw_at lw_m4 23 rfl) rfl
theorem q843 : (Jvm.Cond.static ({ cls := "java/util/Arrays", name := "copyOf", desc := "([Ljava/lang/Object;ILjava/lang/Class;)[Ljava/lang/Object;" } : Jvm.MethodName)) ∈ lw_all := lw_g (lw_at lw_m4 24 rfl) rfl
theorem q844 : (Jvm.Cond.code ({ cls := "java/util/Arrays", name := "copyOf", desc := "([Ljava/lang/Object;ILjava/lang/Class;)[Ljava/lang/Object;" } : Jvm.MethodName) prog_82_method_120_code (4 : Nat) (Option.some (Jvm.ClassFile.FieldType.array (Jvm.ClassFile.FieldType.object "java/lang/Object")))) ∈ lw_all := lw_g (lw_at lw_m4 25 rfl) rfl
theorem q845 : (Jvm.Cond.classLink "java/util/Arrays" (110 : Nat) "[Ljava/lang/Object;") ∈ lw_all := lw_g (lw_at lw_m4 26 rfl) rfl
theorem q847 : (Jvm.Cond.classLink "java/util/Arrays" (2 : Nat) "java/lang/Object") ∈ lw_all := lw_g (lw_at lw_m4 28 rfl) rfl

/-! java/lang/StringLatin1 -/
def RJ16 : String := "java/lang/StringLatin1"
abbrev cJ16_canEncode : ByteArray := prog_70_method_3_code
def yJ16_canEncode : MethodName := ⟨RJ16, "canEncode", "(C)Z"⟩
def dkwJ16_canEncode_0 : List UInt8 := [26, 17, 0, 255, 163, 0, 7, 4, 167, 0, 4, 3, 172]
abbrev dktJ16_canEncode_0 : List UInt8 := dkwJ16_canEncode_0 ++ []
theorem dksJ16_canEncode_0 : cJ16_canEncode.data.toList.drop 0 = dktJ16_canEncode_0 := by decide +kernel
theorem dJ16_canEncode_0 : decode cJ16_canEncode 0 = .ok (.iload_n 0, 1) := dk_26 (dk_at dksJ16_canEncode_0 0 rfl rfl)
theorem dJ16_canEncode_1 : decode cJ16_canEncode 1 = .ok (.sipush 255, 3) := dk_17 0 255 (dk_at dksJ16_canEncode_0 1 rfl rfl)
theorem dJ16_canEncode_4 : decode cJ16_canEncode 4 = .ok (.if_icmp .gt 7, 3) := dk_163 0 7 (dk_at dksJ16_canEncode_0 4 rfl rfl)
theorem dJ16_canEncode_7 : decode cJ16_canEncode 7 = .ok (.iconst 1, 1) := dk_4 (dk_at dksJ16_canEncode_0 7 rfl rfl)
theorem dJ16_canEncode_8 : decode cJ16_canEncode 8 = .ok (.goto 4, 3) := dk_167 0 4 (dk_at dksJ16_canEncode_0 8 rfl rfl)
theorem dJ16_canEncode_11 : decode cJ16_canEncode 11 = .ok (.iconst 0, 1) := dk_3 (dk_at dksJ16_canEncode_0 11 rfl rfl)
theorem dJ16_canEncode_12 : decode cJ16_canEncode 12 = .ok (.ireturn, 1) := dk_172 (dk_at dksJ16_canEncode_0 12 rfl rfl)
abbrev cJ16_inflate : ByteArray := prog_70_method_50_code
def yJ16_inflate : MethodName := ⟨RJ16, "inflate", "([BI[BII)V"⟩
def dkwJ16_inflate_0 : List UInt8 := [42, 27, 44, 29, 21, 4, 184, 0, 240, 177]
abbrev dktJ16_inflate_0 : List UInt8 := dkwJ16_inflate_0 ++ []
theorem dksJ16_inflate_0 : cJ16_inflate.data.toList.drop 0 = dktJ16_inflate_0 := by decide +kernel
theorem dJ16_inflate_0 : decode cJ16_inflate 0 = .ok (.aload_n 0, 1) := dk_42 (dk_at dksJ16_inflate_0 0 rfl rfl)
theorem dJ16_inflate_1 : decode cJ16_inflate 1 = .ok (.iload_n 1, 1) := dk_27 (dk_at dksJ16_inflate_0 1 rfl rfl)
theorem dJ16_inflate_2 : decode cJ16_inflate 2 = .ok (.aload_n 2, 1) := dk_44 (dk_at dksJ16_inflate_0 2 rfl rfl)
theorem dJ16_inflate_3 : decode cJ16_inflate 3 = .ok (.iload_n 3, 1) := dk_29 (dk_at dksJ16_inflate_0 3 rfl rfl)
theorem dJ16_inflate_4 : decode cJ16_inflate 4 = .ok (.iload 4, 2) := dk_21 4 (dk_at dksJ16_inflate_0 4 rfl rfl)
theorem dJ16_inflate_6 : decode cJ16_inflate 6 = .ok (.invokestatic 240, 3) := dk_184 0 240 (dk_at dksJ16_inflate_0 6 rfl rfl)
theorem dJ16_inflate_9 : decode cJ16_inflate 9 = .ok (.return_, 1) := dk_177 (dk_at dksJ16_inflate_0 9 rfl rfl)
abbrev cJ16_equals : ByteArray := prog_70_method_13_code
def yJ16_equals : MethodName := ⟨RJ16, "equals", "([B[B)Z"⟩
def dkwJ16_equals_1 : List UInt8 := [3, 172, 132, 2, 1, 167, 255, 236, 4, 172, 3, 172]
abbrev dktJ16_equals_1 : List UInt8 := dkwJ16_equals_1 ++ []
def dkwJ16_equals_0 : List UInt8 := [42, 190, 43, 190, 160, 0, 30, 3, 61, 28, 42, 190, 162, 0, 20, 42, 28, 51, 43, 28, 51, 159, 0, 5]
abbrev dktJ16_equals_0 : List UInt8 := dkwJ16_equals_0 ++ dktJ16_equals_1
theorem dksJ16_equals_0 : cJ16_equals.data.toList.drop 0 = dktJ16_equals_0 := by decide +kernel
theorem dksJ16_equals_1 : cJ16_equals.data.toList.drop 24 = dktJ16_equals_1 := dk_seg dksJ16_equals_0 24 rfl rfl
theorem dJ16_equals_0 : decode cJ16_equals 0 = .ok (.aload_n 0, 1) := dk_42 (dk_at dksJ16_equals_0 0 rfl rfl)
theorem dJ16_equals_1 : decode cJ16_equals 1 = .ok (.arraylength, 1) := dk_190 (dk_at dksJ16_equals_0 1 rfl rfl)
theorem dJ16_equals_2 : decode cJ16_equals 2 = .ok (.aload_n 1, 1) := dk_43 (dk_at dksJ16_equals_0 2 rfl rfl)
theorem dJ16_equals_3 : decode cJ16_equals 3 = .ok (.arraylength, 1) := dk_190 (dk_at dksJ16_equals_0 3 rfl rfl)
theorem dJ16_equals_4 : decode cJ16_equals 4 = .ok (.if_icmp .ne 30, 3) := dk_160 0 30 (dk_at dksJ16_equals_0 4 rfl rfl)
theorem dJ16_equals_7 : decode cJ16_equals 7 = .ok (.iconst 0, 1) := dk_3 (dk_at dksJ16_equals_0 7 rfl rfl)
theorem dJ16_equals_8 : decode cJ16_equals 8 = .ok (.istore_n 2, 1) := dk_61 (dk_at dksJ16_equals_0 8 rfl rfl)
theorem dJ16_equals_9 : decode cJ16_equals 9 = .ok (.iload_n 2, 1) := dk_28 (dk_at dksJ16_equals_0 9 rfl rfl)
theorem dJ16_equals_10 : decode cJ16_equals 10 = .ok (.aload_n 0, 1) := dk_42 (dk_at dksJ16_equals_0 10 rfl rfl)
theorem dJ16_equals_11 : decode cJ16_equals 11 = .ok (.arraylength, 1) := dk_190 (dk_at dksJ16_equals_0 11 rfl rfl)
theorem dJ16_equals_12 : decode cJ16_equals 12 = .ok (.if_icmp .ge 20, 3) := dk_162 0 20 (dk_at dksJ16_equals_0 12 rfl rfl)
theorem dJ16_equals_15 : decode cJ16_equals 15 = .ok (.aload_n 0, 1) := dk_42 (dk_at dksJ16_equals_0 15 rfl rfl)
theorem dJ16_equals_16 : decode cJ16_equals 16 = .ok (.iload_n 2, 1) := dk_28 (dk_at dksJ16_equals_0 16 rfl rfl)
theorem dJ16_equals_17 : decode cJ16_equals 17 = .ok (.baload, 1) := dk_51 (dk_at dksJ16_equals_0 17 rfl rfl)
theorem dJ16_equals_18 : decode cJ16_equals 18 = .ok (.aload_n 1, 1) := dk_43 (dk_at dksJ16_equals_0 18 rfl rfl)
theorem dJ16_equals_19 : decode cJ16_equals 19 = .ok (.iload_n 2, 1) := dk_28 (dk_at dksJ16_equals_0 19 rfl rfl)
theorem dJ16_equals_20 : decode cJ16_equals 20 = .ok (.baload, 1) := dk_51 (dk_at dksJ16_equals_0 20 rfl rfl)
theorem dJ16_equals_21 : decode cJ16_equals 21 = .ok (.if_icmp .eq 5, 3) := dk_159 0 5 (dk_at dksJ16_equals_0 21 rfl rfl)
theorem dJ16_equals_24 : decode cJ16_equals 24 = .ok (.iconst 0, 1) := dk_3 (dk_at dksJ16_equals_1 0 rfl rfl)
theorem dJ16_equals_25 : decode cJ16_equals 25 = .ok (.ireturn, 1) := dk_172 (dk_at dksJ16_equals_1 1 rfl rfl)
theorem dJ16_equals_26 : decode cJ16_equals 26 = .ok (.iinc 2 1, 3) := dk_132 2 1 (dk_at dksJ16_equals_1 2 rfl rfl)
theorem dJ16_equals_29 : decode cJ16_equals 29 = .ok (.goto (-20), 3) := dk_167 255 236 (dk_at dksJ16_equals_1 5 rfl rfl)
theorem dJ16_equals_32 : decode cJ16_equals 32 = .ok (.iconst 1, 1) := dk_4 (dk_at dksJ16_equals_1 8 rfl rfl)
theorem dJ16_equals_33 : decode cJ16_equals 33 = .ok (.ireturn, 1) := dk_172 (dk_at dksJ16_equals_1 9 rfl rfl)
theorem dJ16_equals_34 : decode cJ16_equals 34 = .ok (.iconst 0, 1) := dk_3 (dk_at dksJ16_equals_1 10 rfl rfl)
theorem dJ16_equals_35 : decode cJ16_equals 35 = .ok (.ireturn, 1) := dk_172 (dk_at dksJ16_equals_1 11 rfl rfl)
abbrev cJ16_indexOf : ByteArray := prog_70_method_22_code
def yJ16_indexOf : MethodName := ⟨RJ16, "indexOf", "([BIII)I"⟩
def dkwJ16_indexOf_1 : List UInt8 := [161, 0, 5, 2, 172, 42, 27, 28, 29, 184, 0, 95, 172]
abbrev dktJ16_indexOf_1 : List UInt8 := dkwJ16_indexOf_1 ++ []
def dkwJ16_indexOf_0 : List UInt8 := [27, 184, 0, 88, 154, 0, 5, 2, 172, 28, 3, 184, 0, 92, 61, 29, 42, 190, 184, 0, 38, 62, 28, 29]
abbrev dktJ16_indexOf_0 : List UInt8 := dkwJ16_indexOf_0 ++ dktJ16_indexOf_1
theorem dksJ16_indexOf_0 : cJ16_indexOf.data.toList.drop 0 = dktJ16_indexOf_0 := by decide +kernel
theorem dksJ16_indexOf_1 : cJ16_indexOf.data.toList.drop 24 = dktJ16_indexOf_1 := dk_seg dksJ16_indexOf_0 24 rfl rfl
theorem dJ16_indexOf_0 : decode cJ16_indexOf 0 = .ok (.iload_n 1, 1) := dk_27 (dk_at dksJ16_indexOf_0 0 rfl rfl)
theorem dJ16_indexOf_1 : decode cJ16_indexOf 1 = .ok (.invokestatic 88, 3) := dk_184 0 88 (dk_at dksJ16_indexOf_0 1 rfl rfl)
theorem dJ16_indexOf_4 : decode cJ16_indexOf 4 = .ok (.ifCond .ne 5, 3) := dk_154 0 5 (dk_at dksJ16_indexOf_0 4 rfl rfl)
theorem dJ16_indexOf_7 : decode cJ16_indexOf 7 = .ok (.iconst (-1), 1) := dk_2 (dk_at dksJ16_indexOf_0 7 rfl rfl)
theorem dJ16_indexOf_8 : decode cJ16_indexOf 8 = .ok (.ireturn, 1) := dk_172 (dk_at dksJ16_indexOf_0 8 rfl rfl)
theorem dJ16_indexOf_9 : decode cJ16_indexOf 9 = .ok (.iload_n 2, 1) := dk_28 (dk_at dksJ16_indexOf_0 9 rfl rfl)
theorem dJ16_indexOf_10 : decode cJ16_indexOf 10 = .ok (.iconst 0, 1) := dk_3 (dk_at dksJ16_indexOf_0 10 rfl rfl)
theorem dJ16_indexOf_11 : decode cJ16_indexOf 11 = .ok (.invokestatic 92, 3) := dk_184 0 92 (dk_at dksJ16_indexOf_0 11 rfl rfl)
theorem dJ16_indexOf_14 : decode cJ16_indexOf 14 = .ok (.istore_n 2, 1) := dk_61 (dk_at dksJ16_indexOf_0 14 rfl rfl)
theorem dJ16_indexOf_15 : decode cJ16_indexOf 15 = .ok (.iload_n 3, 1) := dk_29 (dk_at dksJ16_indexOf_0 15 rfl rfl)
theorem dJ16_indexOf_16 : decode cJ16_indexOf 16 = .ok (.aload_n 0, 1) := dk_42 (dk_at dksJ16_indexOf_0 16 rfl rfl)
theorem dJ16_indexOf_17 : decode cJ16_indexOf 17 = .ok (.arraylength, 1) := dk_190 (dk_at dksJ16_indexOf_0 17 rfl rfl)
theorem dJ16_indexOf_18 : decode cJ16_indexOf 18 = .ok (.invokestatic 38, 3) := dk_184 0 38 (dk_at dksJ16_indexOf_0 18 rfl rfl)
theorem dJ16_indexOf_21 : decode cJ16_indexOf 21 = .ok (.istore_n 3, 1) := dk_62 (dk_at dksJ16_indexOf_0 21 rfl rfl)
theorem dJ16_indexOf_22 : decode cJ16_indexOf 22 = .ok (.iload_n 2, 1) := dk_28 (dk_at dksJ16_indexOf_0 22 rfl rfl)
theorem dJ16_indexOf_23 : decode cJ16_indexOf 23 = .ok (.iload_n 3, 1) := dk_29 (dk_at dksJ16_indexOf_0 23 rfl rfl)
theorem dJ16_indexOf_24 : decode cJ16_indexOf 24 = .ok (.if_icmp .lt 5, 3) := dk_161 0 5 (dk_at dksJ16_indexOf_1 0 rfl rfl)
theorem dJ16_indexOf_27 : decode cJ16_indexOf 27 = .ok (.iconst (-1), 1) := dk_2 (dk_at dksJ16_indexOf_1 3 rfl rfl)
theorem dJ16_indexOf_28 : decode cJ16_indexOf 28 = .ok (.ireturn, 1) := dk_172 (dk_at dksJ16_indexOf_1 4 rfl rfl)
theorem dJ16_indexOf_29 : decode cJ16_indexOf 29 = .ok (.aload_n 0, 1) := dk_42 (dk_at dksJ16_indexOf_1 5 rfl rfl)
theorem dJ16_indexOf_30 : decode cJ16_indexOf 30 = .ok (.iload_n 1, 1) := dk_27 (dk_at dksJ16_indexOf_1 6 rfl rfl)
theorem dJ16_indexOf_31 : decode cJ16_indexOf 31 = .ok (.iload_n 2, 1) := dk_28 (dk_at dksJ16_indexOf_1 7 rfl rfl)
theorem dJ16_indexOf_32 : decode cJ16_indexOf 32 = .ok (.iload_n 3, 1) := dk_29 (dk_at dksJ16_indexOf_1 8 rfl rfl)
theorem dJ16_indexOf_33 : decode cJ16_indexOf 33 = .ok (.invokestatic 95, 3) := dk_184 0 95 (dk_at dksJ16_indexOf_1 9 rfl rfl)
theorem dJ16_indexOf_36 : decode cJ16_indexOf 36 = .ok (.ireturn, 1) := dk_172 (dk_at dksJ16_indexOf_1 12 rfl rfl)
abbrev cJ16_canEncode_2 : ByteArray := prog_70_method_4_code
def yJ16_canEncode_2 : MethodName := ⟨RJ16, "canEncode", "(I)Z"⟩
def dkwJ16_canEncode_2_0 : List UInt8 := [26, 155, 0, 14, 26, 17, 0, 255, 163, 0, 7, 4, 167, 0, 4, 3, 172]
abbrev dktJ16_canEncode_2_0 : List UInt8 := dkwJ16_canEncode_2_0 ++ []
theorem dksJ16_canEncode_2_0 : cJ16_canEncode_2.data.toList.drop 0 = dktJ16_canEncode_2_0 := by decide +kernel
theorem dJ16_canEncode_2_0 : decode cJ16_canEncode_2 0 = .ok (.iload_n 0, 1) := dk_26 (dk_at dksJ16_canEncode_2_0 0 rfl rfl)
theorem dJ16_canEncode_2_1 : decode cJ16_canEncode_2 1 = .ok (.ifCond .lt 14, 3) := dk_155 0 14 (dk_at dksJ16_canEncode_2_0 1 rfl rfl)
theorem dJ16_canEncode_2_4 : decode cJ16_canEncode_2 4 = .ok (.iload_n 0, 1) := dk_26 (dk_at dksJ16_canEncode_2_0 4 rfl rfl)
theorem dJ16_canEncode_2_5 : decode cJ16_canEncode_2 5 = .ok (.sipush 255, 3) := dk_17 0 255 (dk_at dksJ16_canEncode_2_0 5 rfl rfl)
theorem dJ16_canEncode_2_8 : decode cJ16_canEncode_2 8 = .ok (.if_icmp .gt 7, 3) := dk_163 0 7 (dk_at dksJ16_canEncode_2_0 8 rfl rfl)
theorem dJ16_canEncode_2_11 : decode cJ16_canEncode_2 11 = .ok (.iconst 1, 1) := dk_4 (dk_at dksJ16_canEncode_2_0 11 rfl rfl)
theorem dJ16_canEncode_2_12 : decode cJ16_canEncode_2 12 = .ok (.goto 4, 3) := dk_167 0 4 (dk_at dksJ16_canEncode_2_0 12 rfl rfl)
theorem dJ16_canEncode_2_15 : decode cJ16_canEncode_2 15 = .ok (.iconst 0, 1) := dk_3 (dk_at dksJ16_canEncode_2_0 15 rfl rfl)
theorem dJ16_canEncode_2_16 : decode cJ16_canEncode_2 16 = .ok (.ireturn, 1) := dk_172 (dk_at dksJ16_canEncode_2_0 16 rfl rfl)
abbrev cJ16_indexOfChar : ByteArray := prog_70_method_23_code
def yJ16_indexOfChar : MethodName := ⟨RJ16, "indexOfChar", "([BIII)I"⟩
def dkwJ16_indexOfChar_1 : List UInt8 := [172, 132, 5, 1, 167, 255, 235, 2, 172]
abbrev dktJ16_indexOfChar_1 : List UInt8 := dkwJ16_indexOfChar_1 ++ []
def dkwJ16_indexOfChar_0 : List UInt8 := [27, 145, 54, 4, 28, 54, 5, 21, 5, 29, 162, 0, 21, 42, 21, 5, 51, 21, 4, 160, 0, 6, 21, 5]
abbrev dktJ16_indexOfChar_0 : List UInt8 := dkwJ16_indexOfChar_0 ++ dktJ16_indexOfChar_1
theorem dksJ16_indexOfChar_0 : cJ16_indexOfChar.data.toList.drop 0 = dktJ16_indexOfChar_0 := by decide +kernel
theorem dksJ16_indexOfChar_1 : cJ16_indexOfChar.data.toList.drop 24 = dktJ16_indexOfChar_1 := dk_seg dksJ16_indexOfChar_0 24 rfl rfl
theorem dJ16_indexOfChar_0 : decode cJ16_indexOfChar 0 = .ok (.iload_n 1, 1) := dk_27 (dk_at dksJ16_indexOfChar_0 0 rfl rfl)
theorem dJ16_indexOfChar_1 : decode cJ16_indexOfChar 1 = .ok (.i2b, 1) := dk_145 (dk_at dksJ16_indexOfChar_0 1 rfl rfl)
theorem dJ16_indexOfChar_2 : decode cJ16_indexOfChar 2 = .ok (.istore 4, 2) := dk_54 4 (dk_at dksJ16_indexOfChar_0 2 rfl rfl)
theorem dJ16_indexOfChar_4 : decode cJ16_indexOfChar 4 = .ok (.iload_n 2, 1) := dk_28 (dk_at dksJ16_indexOfChar_0 4 rfl rfl)
theorem dJ16_indexOfChar_5 : decode cJ16_indexOfChar 5 = .ok (.istore 5, 2) := dk_54 5 (dk_at dksJ16_indexOfChar_0 5 rfl rfl)
theorem dJ16_indexOfChar_7 : decode cJ16_indexOfChar 7 = .ok (.iload 5, 2) := dk_21 5 (dk_at dksJ16_indexOfChar_0 7 rfl rfl)
theorem dJ16_indexOfChar_9 : decode cJ16_indexOfChar 9 = .ok (.iload_n 3, 1) := dk_29 (dk_at dksJ16_indexOfChar_0 9 rfl rfl)
theorem dJ16_indexOfChar_10 : decode cJ16_indexOfChar 10 = .ok (.if_icmp .ge 21, 3) := dk_162 0 21 (dk_at dksJ16_indexOfChar_0 10 rfl rfl)
theorem dJ16_indexOfChar_13 : decode cJ16_indexOfChar 13 = .ok (.aload_n 0, 1) := dk_42 (dk_at dksJ16_indexOfChar_0 13 rfl rfl)
theorem dJ16_indexOfChar_14 : decode cJ16_indexOfChar 14 = .ok (.iload 5, 2) := dk_21 5 (dk_at dksJ16_indexOfChar_0 14 rfl rfl)
theorem dJ16_indexOfChar_16 : decode cJ16_indexOfChar 16 = .ok (.baload, 1) := dk_51 (dk_at dksJ16_indexOfChar_0 16 rfl rfl)
theorem dJ16_indexOfChar_17 : decode cJ16_indexOfChar 17 = .ok (.iload 4, 2) := dk_21 4 (dk_at dksJ16_indexOfChar_0 17 rfl rfl)
theorem dJ16_indexOfChar_19 : decode cJ16_indexOfChar 19 = .ok (.if_icmp .ne 6, 3) := dk_160 0 6 (dk_at dksJ16_indexOfChar_0 19 rfl rfl)
theorem dJ16_indexOfChar_22 : decode cJ16_indexOfChar 22 = .ok (.iload 5, 2) := dk_21 5 (dk_at dksJ16_indexOfChar_0 22 rfl rfl)
theorem dJ16_indexOfChar_24 : decode cJ16_indexOfChar 24 = .ok (.ireturn, 1) := dk_172 (dk_at dksJ16_indexOfChar_1 0 rfl rfl)
theorem dJ16_indexOfChar_25 : decode cJ16_indexOfChar 25 = .ok (.iinc 5 1, 3) := dk_132 5 1 (dk_at dksJ16_indexOfChar_1 1 rfl rfl)
theorem dJ16_indexOfChar_28 : decode cJ16_indexOfChar 28 = .ok (.goto (-21), 3) := dk_167 255 235 (dk_at dksJ16_indexOfChar_1 4 rfl rfl)
theorem dJ16_indexOfChar_31 : decode cJ16_indexOfChar 31 = .ok (.iconst (-1), 1) := dk_2 (dk_at dksJ16_indexOfChar_1 7 rfl rfl)
theorem dJ16_indexOfChar_32 : decode cJ16_indexOfChar 32 = .ok (.ireturn, 1) := dk_172 (dk_at dksJ16_indexOfChar_1 8 rfl rfl)
abbrev cJ16_charAt : ByteArray := prog_70_method_2_code
def yJ16_charAt : MethodName := ⟨RJ16, "charAt", "([BI)C"⟩
def dkwJ16_charAt_0 : List UInt8 := [27, 42, 190, 184, 0, 9, 42, 27, 51, 17, 0, 255, 126, 146, 172]
abbrev dktJ16_charAt_0 : List UInt8 := dkwJ16_charAt_0 ++ []
theorem dksJ16_charAt_0 : cJ16_charAt.data.toList.drop 0 = dktJ16_charAt_0 := by decide +kernel
theorem dJ16_charAt_0 : decode cJ16_charAt 0 = .ok (.iload_n 1, 1) := dk_27 (dk_at dksJ16_charAt_0 0 rfl rfl)
theorem dJ16_charAt_1 : decode cJ16_charAt 1 = .ok (.aload_n 0, 1) := dk_42 (dk_at dksJ16_charAt_0 1 rfl rfl)
theorem dJ16_charAt_2 : decode cJ16_charAt 2 = .ok (.arraylength, 1) := dk_190 (dk_at dksJ16_charAt_0 2 rfl rfl)
theorem dJ16_charAt_3 : decode cJ16_charAt 3 = .ok (.invokestatic 9, 3) := dk_184 0 9 (dk_at dksJ16_charAt_0 3 rfl rfl)
theorem dJ16_charAt_6 : decode cJ16_charAt 6 = .ok (.aload_n 0, 1) := dk_42 (dk_at dksJ16_charAt_0 6 rfl rfl)
theorem dJ16_charAt_7 : decode cJ16_charAt 7 = .ok (.iload_n 1, 1) := dk_27 (dk_at dksJ16_charAt_0 7 rfl rfl)
theorem dJ16_charAt_8 : decode cJ16_charAt 8 = .ok (.baload, 1) := dk_51 (dk_at dksJ16_charAt_0 8 rfl rfl)
theorem dJ16_charAt_9 : decode cJ16_charAt 9 = .ok (.sipush 255, 3) := dk_17 0 255 (dk_at dksJ16_charAt_0 9 rfl rfl)
theorem dJ16_charAt_12 : decode cJ16_charAt 12 = .ok (.iand, 1) := dk_126 (dk_at dksJ16_charAt_0 12 rfl rfl)
theorem dJ16_charAt_13 : decode cJ16_charAt 13 = .ok (.i2c, 1) := dk_146 (dk_at dksJ16_charAt_0 13 rfl rfl)
theorem dJ16_charAt_14 : decode cJ16_charAt 14 = .ok (.ireturn, 1) := dk_172 (dk_at dksJ16_charAt_0 14 rfl rfl)
abbrev cJ16_hashCode : ByteArray := prog_70_method_21_code
def yJ16_hashCode : MethodName := ⟨RJ16, "hashCode", "([B)I"⟩
def dkwJ16_hashCode_2 : List UInt8 := [3, 167, 0, 22, 42, 3, 51, 17, 0, 255, 126, 167, 0, 12, 42, 3, 42, 190, 3, 7, 184, 0, 84, 172]
abbrev dktJ16_hashCode_2 : List UInt8 := dkwJ16_hashCode_2 ++ []
def dkwJ16_hashCode_1 : List UInt8 := [171, 0, 0, 0, 0, 40, 0, 0, 0, 2, 0, 0, 0, 0, 0, 0, 0, 26, 0, 0, 0, 1, 0, 0, 0, 30]
abbrev dktJ16_hashCode_1 : List UInt8 := dkwJ16_hashCode_1 ++ dktJ16_hashCode_2
def dkwJ16_hashCode_0 : List UInt8 := [42, 190]
abbrev dktJ16_hashCode_0 : List UInt8 := dkwJ16_hashCode_0 ++ dktJ16_hashCode_1
theorem dksJ16_hashCode_0 : cJ16_hashCode.data.toList.drop 0 = dktJ16_hashCode_0 := by decide +kernel
theorem dksJ16_hashCode_1 : cJ16_hashCode.data.toList.drop 2 = dktJ16_hashCode_1 := dk_seg dksJ16_hashCode_0 2 rfl rfl
theorem dksJ16_hashCode_2 : cJ16_hashCode.data.toList.drop 28 = dktJ16_hashCode_2 := dk_seg dksJ16_hashCode_1 26 rfl rfl
theorem dJ16_hashCode_0 : decode cJ16_hashCode 0 = .ok (.aload_n 0, 1) := dk_42 (dk_at dksJ16_hashCode_0 0 rfl rfl)
theorem dJ16_hashCode_1 : decode cJ16_hashCode 1 = .ok (.arraylength, 1) := dk_190 (dk_at dksJ16_hashCode_0 1 rfl rfl)
theorem dJ16_hashCode_2 : decode cJ16_hashCode 2 = .ok (.lookupswitch 40 #[(0, 26), (1, 30)], 26) := by decide +kernel
theorem dJ16_hashCode_28 : decode cJ16_hashCode 28 = .ok (.iconst 0, 1) := dk_3 (dk_at dksJ16_hashCode_2 0 rfl rfl)
theorem dJ16_hashCode_29 : decode cJ16_hashCode 29 = .ok (.goto 22, 3) := dk_167 0 22 (dk_at dksJ16_hashCode_2 1 rfl rfl)
theorem dJ16_hashCode_32 : decode cJ16_hashCode 32 = .ok (.aload_n 0, 1) := dk_42 (dk_at dksJ16_hashCode_2 4 rfl rfl)
theorem dJ16_hashCode_33 : decode cJ16_hashCode 33 = .ok (.iconst 0, 1) := dk_3 (dk_at dksJ16_hashCode_2 5 rfl rfl)
theorem dJ16_hashCode_34 : decode cJ16_hashCode 34 = .ok (.baload, 1) := dk_51 (dk_at dksJ16_hashCode_2 6 rfl rfl)
theorem dJ16_hashCode_35 : decode cJ16_hashCode 35 = .ok (.sipush 255, 3) := dk_17 0 255 (dk_at dksJ16_hashCode_2 7 rfl rfl)
theorem dJ16_hashCode_38 : decode cJ16_hashCode 38 = .ok (.iand, 1) := dk_126 (dk_at dksJ16_hashCode_2 10 rfl rfl)
theorem dJ16_hashCode_39 : decode cJ16_hashCode 39 = .ok (.goto 12, 3) := dk_167 0 12 (dk_at dksJ16_hashCode_2 11 rfl rfl)
theorem dJ16_hashCode_42 : decode cJ16_hashCode 42 = .ok (.aload_n 0, 1) := dk_42 (dk_at dksJ16_hashCode_2 14 rfl rfl)
theorem dJ16_hashCode_43 : decode cJ16_hashCode 43 = .ok (.iconst 0, 1) := dk_3 (dk_at dksJ16_hashCode_2 15 rfl rfl)
theorem dJ16_hashCode_44 : decode cJ16_hashCode 44 = .ok (.aload_n 0, 1) := dk_42 (dk_at dksJ16_hashCode_2 16 rfl rfl)
theorem dJ16_hashCode_45 : decode cJ16_hashCode 45 = .ok (.arraylength, 1) := dk_190 (dk_at dksJ16_hashCode_2 17 rfl rfl)
theorem dJ16_hashCode_46 : decode cJ16_hashCode 46 = .ok (.iconst 0, 1) := dk_3 (dk_at dksJ16_hashCode_2 18 rfl rfl)
theorem dJ16_hashCode_47 : decode cJ16_hashCode 47 = .ok (.iconst 4, 1) := dk_7 (dk_at dksJ16_hashCode_2 19 rfl rfl)
theorem dJ16_hashCode_48 : decode cJ16_hashCode 48 = .ok (.invokestatic 84, 3) := dk_184 0 84 (dk_at dksJ16_hashCode_2 20 rfl rfl)
theorem dJ16_hashCode_51 : decode cJ16_hashCode 51 = .ok (.ireturn, 1) := dk_172 (dk_at dksJ16_hashCode_2 23 rfl rfl)
abbrev cJ16_compareTo : ByteArray := prog_70_method_14_code
def yJ16_compareTo : MethodName := ⟨RJ16, "compareTo", "([B[B)I"⟩
def dkwJ16_compareTo_0 : List UInt8 := [42, 190, 61, 43, 190, 62, 42, 43, 28, 29, 184, 0, 34, 172]
abbrev dktJ16_compareTo_0 : List UInt8 := dkwJ16_compareTo_0 ++ []
theorem dksJ16_compareTo_0 : cJ16_compareTo.data.toList.drop 0 = dktJ16_compareTo_0 := by decide +kernel
theorem dJ16_compareTo_0 : decode cJ16_compareTo 0 = .ok (.aload_n 0, 1) := dk_42 (dk_at dksJ16_compareTo_0 0 rfl rfl)
theorem dJ16_compareTo_1 : decode cJ16_compareTo 1 = .ok (.arraylength, 1) := dk_190 (dk_at dksJ16_compareTo_0 1 rfl rfl)
theorem dJ16_compareTo_2 : decode cJ16_compareTo 2 = .ok (.istore_n 2, 1) := dk_61 (dk_at dksJ16_compareTo_0 2 rfl rfl)
theorem dJ16_compareTo_3 : decode cJ16_compareTo 3 = .ok (.aload_n 1, 1) := dk_43 (dk_at dksJ16_compareTo_0 3 rfl rfl)
theorem dJ16_compareTo_4 : decode cJ16_compareTo 4 = .ok (.arraylength, 1) := dk_190 (dk_at dksJ16_compareTo_0 4 rfl rfl)
theorem dJ16_compareTo_5 : decode cJ16_compareTo 5 = .ok (.istore_n 3, 1) := dk_62 (dk_at dksJ16_compareTo_0 5 rfl rfl)
theorem dJ16_compareTo_6 : decode cJ16_compareTo 6 = .ok (.aload_n 0, 1) := dk_42 (dk_at dksJ16_compareTo_0 6 rfl rfl)
theorem dJ16_compareTo_7 : decode cJ16_compareTo 7 = .ok (.aload_n 1, 1) := dk_43 (dk_at dksJ16_compareTo_0 7 rfl rfl)
theorem dJ16_compareTo_8 : decode cJ16_compareTo 8 = .ok (.iload_n 2, 1) := dk_28 (dk_at dksJ16_compareTo_0 8 rfl rfl)
theorem dJ16_compareTo_9 : decode cJ16_compareTo 9 = .ok (.iload_n 3, 1) := dk_29 (dk_at dksJ16_compareTo_0 9 rfl rfl)
theorem dJ16_compareTo_10 : decode cJ16_compareTo 10 = .ok (.invokestatic 34, 3) := dk_184 0 34 (dk_at dksJ16_compareTo_0 10 rfl rfl)
theorem dJ16_compareTo_13 : decode cJ16_compareTo 13 = .ok (.ireturn, 1) := dk_172 (dk_at dksJ16_compareTo_0 13 rfl rfl)
abbrev cJ16_compareTo_2 : ByteArray := prog_70_method_15_code
def yJ16_compareTo_2 : MethodName := ⟨RJ16, "compareTo", "([B[BII)I"⟩
def dkwJ16_compareTo_2_1 : List UInt8 := [167, 0, 16, 42, 21, 5, 184, 0, 50, 43, 21, 5, 184, 0, 50, 100, 172]
abbrev dktJ16_compareTo_2_1 : List UInt8 := dkwJ16_compareTo_2_1 ++ []
def dkwJ16_compareTo_2_0 : List UInt8 := [28, 29, 184, 0, 38, 54, 4, 42, 43, 21, 4, 184, 0, 44, 54, 5, 21, 5, 156, 0, 9, 28, 29, 100]
abbrev dktJ16_compareTo_2_0 : List UInt8 := dkwJ16_compareTo_2_0 ++ dktJ16_compareTo_2_1
theorem dksJ16_compareTo_2_0 : cJ16_compareTo_2.data.toList.drop 0 = dktJ16_compareTo_2_0 := by decide +kernel
theorem dksJ16_compareTo_2_1 : cJ16_compareTo_2.data.toList.drop 24 = dktJ16_compareTo_2_1 := dk_seg dksJ16_compareTo_2_0 24 rfl rfl
theorem dJ16_compareTo_2_0 : decode cJ16_compareTo_2 0 = .ok (.iload_n 2, 1) := dk_28 (dk_at dksJ16_compareTo_2_0 0 rfl rfl)
theorem dJ16_compareTo_2_1 : decode cJ16_compareTo_2 1 = .ok (.iload_n 3, 1) := dk_29 (dk_at dksJ16_compareTo_2_0 1 rfl rfl)
theorem dJ16_compareTo_2_2 : decode cJ16_compareTo_2 2 = .ok (.invokestatic 38, 3) := dk_184 0 38 (dk_at dksJ16_compareTo_2_0 2 rfl rfl)
theorem dJ16_compareTo_2_5 : decode cJ16_compareTo_2 5 = .ok (.istore 4, 2) := dk_54 4 (dk_at dksJ16_compareTo_2_0 5 rfl rfl)
theorem dJ16_compareTo_2_7 : decode cJ16_compareTo_2 7 = .ok (.aload_n 0, 1) := dk_42 (dk_at dksJ16_compareTo_2_0 7 rfl rfl)
theorem dJ16_compareTo_2_8 : decode cJ16_compareTo_2 8 = .ok (.aload_n 1, 1) := dk_43 (dk_at dksJ16_compareTo_2_0 8 rfl rfl)
theorem dJ16_compareTo_2_9 : decode cJ16_compareTo_2 9 = .ok (.iload 4, 2) := dk_21 4 (dk_at dksJ16_compareTo_2_0 9 rfl rfl)
theorem dJ16_compareTo_2_11 : decode cJ16_compareTo_2 11 = .ok (.invokestatic 44, 3) := dk_184 0 44 (dk_at dksJ16_compareTo_2_0 11 rfl rfl)
theorem dJ16_compareTo_2_14 : decode cJ16_compareTo_2 14 = .ok (.istore 5, 2) := dk_54 5 (dk_at dksJ16_compareTo_2_0 14 rfl rfl)
theorem dJ16_compareTo_2_16 : decode cJ16_compareTo_2 16 = .ok (.iload 5, 2) := dk_21 5 (dk_at dksJ16_compareTo_2_0 16 rfl rfl)
theorem dJ16_compareTo_2_18 : decode cJ16_compareTo_2 18 = .ok (.ifCond .ge 9, 3) := dk_156 0 9 (dk_at dksJ16_compareTo_2_0 18 rfl rfl)
theorem dJ16_compareTo_2_21 : decode cJ16_compareTo_2 21 = .ok (.iload_n 2, 1) := dk_28 (dk_at dksJ16_compareTo_2_0 21 rfl rfl)
theorem dJ16_compareTo_2_22 : decode cJ16_compareTo_2 22 = .ok (.iload_n 3, 1) := dk_29 (dk_at dksJ16_compareTo_2_0 22 rfl rfl)
theorem dJ16_compareTo_2_23 : decode cJ16_compareTo_2 23 = .ok (.isub, 1) := dk_100 (dk_at dksJ16_compareTo_2_0 23 rfl rfl)
theorem dJ16_compareTo_2_24 : decode cJ16_compareTo_2 24 = .ok (.goto 16, 3) := dk_167 0 16 (dk_at dksJ16_compareTo_2_1 0 rfl rfl)
theorem dJ16_compareTo_2_27 : decode cJ16_compareTo_2 27 = .ok (.aload_n 0, 1) := dk_42 (dk_at dksJ16_compareTo_2_1 3 rfl rfl)
theorem dJ16_compareTo_2_28 : decode cJ16_compareTo_2 28 = .ok (.iload 5, 2) := dk_21 5 (dk_at dksJ16_compareTo_2_1 4 rfl rfl)
theorem dJ16_compareTo_2_30 : decode cJ16_compareTo_2 30 = .ok (.invokestatic 50, 3) := dk_184 0 50 (dk_at dksJ16_compareTo_2_1 6 rfl rfl)
theorem dJ16_compareTo_2_33 : decode cJ16_compareTo_2 33 = .ok (.aload_n 1, 1) := dk_43 (dk_at dksJ16_compareTo_2_1 9 rfl rfl)
theorem dJ16_compareTo_2_34 : decode cJ16_compareTo_2 34 = .ok (.iload 5, 2) := dk_21 5 (dk_at dksJ16_compareTo_2_1 10 rfl rfl)
theorem dJ16_compareTo_2_36 : decode cJ16_compareTo_2 36 = .ok (.invokestatic 50, 3) := dk_184 0 50 (dk_at dksJ16_compareTo_2_1 12 rfl rfl)
theorem dJ16_compareTo_2_39 : decode cJ16_compareTo_2 39 = .ok (.isub, 1) := dk_100 (dk_at dksJ16_compareTo_2_1 15 rfl rfl)
theorem dJ16_compareTo_2_40 : decode cJ16_compareTo_2 40 = .ok (.ireturn, 1) := dk_172 (dk_at dksJ16_compareTo_2_1 16 rfl rfl)
abbrev cJ16_getChar : ByteArray := prog_70_method_44_code
def yJ16_getChar : MethodName := ⟨RJ16, "getChar", "([BI)C"⟩
def dkwJ16_getChar_0 : List UInt8 := [42, 27, 51, 17, 0, 255, 126, 146, 172]
abbrev dktJ16_getChar_0 : List UInt8 := dkwJ16_getChar_0 ++ []
theorem dksJ16_getChar_0 : cJ16_getChar.data.toList.drop 0 = dktJ16_getChar_0 := by decide +kernel
theorem dJ16_getChar_0 : decode cJ16_getChar 0 = .ok (.aload_n 0, 1) := dk_42 (dk_at dksJ16_getChar_0 0 rfl rfl)
theorem dJ16_getChar_1 : decode cJ16_getChar 1 = .ok (.iload_n 1, 1) := dk_27 (dk_at dksJ16_getChar_0 1 rfl rfl)
theorem dJ16_getChar_2 : decode cJ16_getChar 2 = .ok (.baload, 1) := dk_51 (dk_at dksJ16_getChar_0 2 rfl rfl)
theorem dJ16_getChar_3 : decode cJ16_getChar 3 = .ok (.sipush 255, 3) := dk_17 0 255 (dk_at dksJ16_getChar_0 3 rfl rfl)
theorem dJ16_getChar_6 : decode cJ16_getChar 6 = .ok (.iand, 1) := dk_126 (dk_at dksJ16_getChar_0 6 rfl rfl)
theorem dJ16_getChar_7 : decode cJ16_getChar 7 = .ok (.i2c, 1) := dk_146 (dk_at dksJ16_getChar_0 7 rfl rfl)
theorem dJ16_getChar_8 : decode cJ16_getChar 8 = .ok (.ireturn, 1) := dk_172 (dk_at dksJ16_getChar_0 8 rfl rfl)
abbrev cJ16_compareToUTF16 : ByteArray := prog_70_method_16_code
def yJ16_compareToUTF16 : MethodName := ⟨RJ16, "compareToUTF16", "([B[B)I"⟩
def dkwJ16_compareToUTF16_0 : List UInt8 := [42, 184, 0, 54, 61, 43, 184, 0, 58, 62, 42, 43, 28, 29, 184, 0, 59, 172]
abbrev dktJ16_compareToUTF16_0 : List UInt8 := dkwJ16_compareToUTF16_0 ++ []
theorem dksJ16_compareToUTF16_0 : cJ16_compareToUTF16.data.toList.drop 0 = dktJ16_compareToUTF16_0 := by decide +kernel
theorem dJ16_compareToUTF16_0 : decode cJ16_compareToUTF16 0 = .ok (.aload_n 0, 1) := dk_42 (dk_at dksJ16_compareToUTF16_0 0 rfl rfl)
theorem dJ16_compareToUTF16_1 : decode cJ16_compareToUTF16 1 = .ok (.invokestatic 54, 3) := dk_184 0 54 (dk_at dksJ16_compareToUTF16_0 1 rfl rfl)
theorem dJ16_compareToUTF16_4 : decode cJ16_compareToUTF16 4 = .ok (.istore_n 2, 1) := dk_61 (dk_at dksJ16_compareToUTF16_0 4 rfl rfl)
theorem dJ16_compareToUTF16_5 : decode cJ16_compareToUTF16 5 = .ok (.aload_n 1, 1) := dk_43 (dk_at dksJ16_compareToUTF16_0 5 rfl rfl)
theorem dJ16_compareToUTF16_6 : decode cJ16_compareToUTF16 6 = .ok (.invokestatic 58, 3) := dk_184 0 58 (dk_at dksJ16_compareToUTF16_0 6 rfl rfl)
theorem dJ16_compareToUTF16_9 : decode cJ16_compareToUTF16 9 = .ok (.istore_n 3, 1) := dk_62 (dk_at dksJ16_compareToUTF16_0 9 rfl rfl)
theorem dJ16_compareToUTF16_10 : decode cJ16_compareToUTF16 10 = .ok (.aload_n 0, 1) := dk_42 (dk_at dksJ16_compareToUTF16_0 10 rfl rfl)
theorem dJ16_compareToUTF16_11 : decode cJ16_compareToUTF16 11 = .ok (.aload_n 1, 1) := dk_43 (dk_at dksJ16_compareToUTF16_0 11 rfl rfl)
theorem dJ16_compareToUTF16_12 : decode cJ16_compareToUTF16 12 = .ok (.iload_n 2, 1) := dk_28 (dk_at dksJ16_compareToUTF16_0 12 rfl rfl)
theorem dJ16_compareToUTF16_13 : decode cJ16_compareToUTF16 13 = .ok (.iload_n 3, 1) := dk_29 (dk_at dksJ16_compareToUTF16_0 13 rfl rfl)
theorem dJ16_compareToUTF16_14 : decode cJ16_compareToUTF16 14 = .ok (.invokestatic 59, 3) := dk_184 0 59 (dk_at dksJ16_compareToUTF16_0 14 rfl rfl)
theorem dJ16_compareToUTF16_17 : decode cJ16_compareToUTF16 17 = .ok (.ireturn, 1) := dk_172 (dk_at dksJ16_compareToUTF16_0 17 rfl rfl)
abbrev cJ16_length : ByteArray := prog_70_method_5_code
def yJ16_length : MethodName := ⟨RJ16, "length", "([B)I"⟩
theorem dJ16_length_0 : decode cJ16_length 0 = .ok (.aload_n 0, 1) := by decide +kernel
theorem dJ16_length_1 : decode cJ16_length 1 = .ok (.arraylength, 1) := by decide +kernel
theorem dJ16_length_2 : decode cJ16_length 2 = .ok (.ireturn, 1) := by decide +kernel
abbrev cJ16_compareToUTF16Values : ByteArray := prog_70_method_18_code
def yJ16_compareToUTF16Values : MethodName := ⟨RJ16, "compareToUTF16Values", "([B[BII)I"⟩
def dkwJ16_compareToUTF16Values_2 : List UInt8 := [132, 5, 1, 167, 255, 217, 28, 29, 100, 172]
abbrev dktJ16_compareToUTF16Values_2 : List UInt8 := dkwJ16_compareToUTF16Values_2 ++ []
def dkwJ16_compareToUTF16Values_1 : List UInt8 := [54, 6, 43, 21, 5, 184, 0, 65, 54, 7, 21, 6, 21, 7, 159, 0, 9, 21, 6, 21, 7, 100, 172]
abbrev dktJ16_compareToUTF16Values_1 : List UInt8 := dkwJ16_compareToUTF16Values_1 ++ dktJ16_compareToUTF16Values_2
def dkwJ16_compareToUTF16Values_0 : List UInt8 := [28, 29, 184, 0, 38, 54, 4, 3, 54, 5, 21, 5, 21, 4, 162, 0, 38, 42, 21, 5, 184, 0, 50]
abbrev dktJ16_compareToUTF16Values_0 : List UInt8 := dkwJ16_compareToUTF16Values_0 ++ dktJ16_compareToUTF16Values_1
theorem dksJ16_compareToUTF16Values_0 : cJ16_compareToUTF16Values.data.toList.drop 0 = dktJ16_compareToUTF16Values_0 := by decide +kernel
theorem dksJ16_compareToUTF16Values_1 : cJ16_compareToUTF16Values.data.toList.drop 23 = dktJ16_compareToUTF16Values_1 := dk_seg dksJ16_compareToUTF16Values_0 23 rfl rfl
theorem dksJ16_compareToUTF16Values_2 : cJ16_compareToUTF16Values.data.toList.drop 46 = dktJ16_compareToUTF16Values_2 := dk_seg dksJ16_compareToUTF16Values_1 23 rfl rfl
theorem dJ16_compareToUTF16Values_0 : decode cJ16_compareToUTF16Values 0 = .ok (.iload_n 2, 1) := dk_28 (dk_at dksJ16_compareToUTF16Values_0 0 rfl rfl)
theorem dJ16_compareToUTF16Values_1 : decode cJ16_compareToUTF16Values 1 = .ok (.iload_n 3, 1) := dk_29 (dk_at dksJ16_compareToUTF16Values_0 1 rfl rfl)
theorem dJ16_compareToUTF16Values_2 : decode cJ16_compareToUTF16Values 2 = .ok (.invokestatic 38, 3) := dk_184 0 38 (dk_at dksJ16_compareToUTF16Values_0 2 rfl rfl)
theorem dJ16_compareToUTF16Values_5 : decode cJ16_compareToUTF16Values 5 = .ok (.istore 4, 2) := dk_54 4 (dk_at dksJ16_compareToUTF16Values_0 5 rfl rfl)
theorem dJ16_compareToUTF16Values_7 : decode cJ16_compareToUTF16Values 7 = .ok (.iconst 0, 1) := dk_3 (dk_at dksJ16_compareToUTF16Values_0 7 rfl rfl)
theorem dJ16_compareToUTF16Values_8 : decode cJ16_compareToUTF16Values 8 = .ok (.istore 5, 2) := dk_54 5 (dk_at dksJ16_compareToUTF16Values_0 8 rfl rfl)
theorem dJ16_compareToUTF16Values_10 : decode cJ16_compareToUTF16Values 10 = .ok (.iload 5, 2) := dk_21 5 (dk_at dksJ16_compareToUTF16Values_0 10 rfl rfl)
theorem dJ16_compareToUTF16Values_12 : decode cJ16_compareToUTF16Values 12 = .ok (.iload 4, 2) := dk_21 4 (dk_at dksJ16_compareToUTF16Values_0 12 rfl rfl)
theorem dJ16_compareToUTF16Values_14 : decode cJ16_compareToUTF16Values 14 = .ok (.if_icmp .ge 38, 3) := dk_162 0 38 (dk_at dksJ16_compareToUTF16Values_0 14 rfl rfl)
theorem dJ16_compareToUTF16Values_17 : decode cJ16_compareToUTF16Values 17 = .ok (.aload_n 0, 1) := dk_42 (dk_at dksJ16_compareToUTF16Values_0 17 rfl rfl)
theorem dJ16_compareToUTF16Values_18 : decode cJ16_compareToUTF16Values 18 = .ok (.iload 5, 2) := dk_21 5 (dk_at dksJ16_compareToUTF16Values_0 18 rfl rfl)
theorem dJ16_compareToUTF16Values_20 : decode cJ16_compareToUTF16Values 20 = .ok (.invokestatic 50, 3) := dk_184 0 50 (dk_at dksJ16_compareToUTF16Values_0 20 rfl rfl)
theorem dJ16_compareToUTF16Values_23 : decode cJ16_compareToUTF16Values 23 = .ok (.istore 6, 2) := dk_54 6 (dk_at dksJ16_compareToUTF16Values_1 0 rfl rfl)
theorem dJ16_compareToUTF16Values_25 : decode cJ16_compareToUTF16Values 25 = .ok (.aload_n 1, 1) := dk_43 (dk_at dksJ16_compareToUTF16Values_1 2 rfl rfl)
theorem dJ16_compareToUTF16Values_26 : decode cJ16_compareToUTF16Values 26 = .ok (.iload 5, 2) := dk_21 5 (dk_at dksJ16_compareToUTF16Values_1 3 rfl rfl)
theorem dJ16_compareToUTF16Values_28 : decode cJ16_compareToUTF16Values 28 = .ok (.invokestatic 65, 3) := dk_184 0 65 (dk_at dksJ16_compareToUTF16Values_1 5 rfl rfl)
theorem dJ16_compareToUTF16Values_31 : decode cJ16_compareToUTF16Values 31 = .ok (.istore 7, 2) := dk_54 7 (dk_at dksJ16_compareToUTF16Values_1 8 rfl rfl)
theorem dJ16_compareToUTF16Values_33 : decode cJ16_compareToUTF16Values 33 = .ok (.iload 6, 2) := dk_21 6 (dk_at dksJ16_compareToUTF16Values_1 10 rfl rfl)
theorem dJ16_compareToUTF16Values_35 : decode cJ16_compareToUTF16Values 35 = .ok (.iload 7, 2) := dk_21 7 (dk_at dksJ16_compareToUTF16Values_1 12 rfl rfl)
theorem dJ16_compareToUTF16Values_37 : decode cJ16_compareToUTF16Values 37 = .ok (.if_icmp .eq 9, 3) := dk_159 0 9 (dk_at dksJ16_compareToUTF16Values_1 14 rfl rfl)
theorem dJ16_compareToUTF16Values_40 : decode cJ16_compareToUTF16Values 40 = .ok (.iload 6, 2) := dk_21 6 (dk_at dksJ16_compareToUTF16Values_1 17 rfl rfl)
theorem dJ16_compareToUTF16Values_42 : decode cJ16_compareToUTF16Values 42 = .ok (.iload 7, 2) := dk_21 7 (dk_at dksJ16_compareToUTF16Values_1 19 rfl rfl)
theorem dJ16_compareToUTF16Values_44 : decode cJ16_compareToUTF16Values 44 = .ok (.isub, 1) := dk_100 (dk_at dksJ16_compareToUTF16Values_1 21 rfl rfl)
theorem dJ16_compareToUTF16Values_45 : decode cJ16_compareToUTF16Values 45 = .ok (.ireturn, 1) := dk_172 (dk_at dksJ16_compareToUTF16Values_1 22 rfl rfl)
theorem dJ16_compareToUTF16Values_46 : decode cJ16_compareToUTF16Values 46 = .ok (.iinc 5 1, 3) := dk_132 5 1 (dk_at dksJ16_compareToUTF16Values_2 0 rfl rfl)
theorem dJ16_compareToUTF16Values_49 : decode cJ16_compareToUTF16Values 49 = .ok (.goto (-39), 3) := dk_167 255 217 (dk_at dksJ16_compareToUTF16Values_2 3 rfl rfl)
theorem dJ16_compareToUTF16Values_52 : decode cJ16_compareToUTF16Values 52 = .ok (.iload_n 2, 1) := dk_28 (dk_at dksJ16_compareToUTF16Values_2 6 rfl rfl)
theorem dJ16_compareToUTF16Values_53 : decode cJ16_compareToUTF16Values 53 = .ok (.iload_n 3, 1) := dk_29 (dk_at dksJ16_compareToUTF16Values_2 7 rfl rfl)
theorem dJ16_compareToUTF16Values_54 : decode cJ16_compareToUTF16Values 54 = .ok (.isub, 1) := dk_100 (dk_at dksJ16_compareToUTF16Values_2 8 rfl rfl)
theorem dJ16_compareToUTF16Values_55 : decode cJ16_compareToUTF16Values 55 = .ok (.ireturn, 1) := dk_172 (dk_at dksJ16_compareToUTF16Values_2 9 rfl rfl)
abbrev cJ16_compareToUTF16_2 : ByteArray := prog_70_method_17_code
def yJ16_compareToUTF16_2 : MethodName := ⟨RJ16, "compareToUTF16", "([B[BII)I"⟩
def dkwJ16_compareToUTF16_2_0 : List UInt8 := [28, 42, 184, 0, 54, 184, 0, 62, 29, 43, 184, 0, 58, 184, 0, 62, 42, 43, 28, 29, 184, 0, 59, 172]
abbrev dktJ16_compareToUTF16_2_0 : List UInt8 := dkwJ16_compareToUTF16_2_0 ++ []
theorem dksJ16_compareToUTF16_2_0 : cJ16_compareToUTF16_2.data.toList.drop 0 = dktJ16_compareToUTF16_2_0 := by decide +kernel
theorem dJ16_compareToUTF16_2_0 : decode cJ16_compareToUTF16_2 0 = .ok (.iload_n 2, 1) := dk_28 (dk_at dksJ16_compareToUTF16_2_0 0 rfl rfl)
theorem dJ16_compareToUTF16_2_1 : decode cJ16_compareToUTF16_2 1 = .ok (.aload_n 0, 1) := dk_42 (dk_at dksJ16_compareToUTF16_2_0 1 rfl rfl)
theorem dJ16_compareToUTF16_2_2 : decode cJ16_compareToUTF16_2 2 = .ok (.invokestatic 54, 3) := dk_184 0 54 (dk_at dksJ16_compareToUTF16_2_0 2 rfl rfl)
theorem dJ16_compareToUTF16_2_5 : decode cJ16_compareToUTF16_2 5 = .ok (.invokestatic 62, 3) := dk_184 0 62 (dk_at dksJ16_compareToUTF16_2_0 5 rfl rfl)
theorem dJ16_compareToUTF16_2_8 : decode cJ16_compareToUTF16_2 8 = .ok (.iload_n 3, 1) := dk_29 (dk_at dksJ16_compareToUTF16_2_0 8 rfl rfl)
theorem dJ16_compareToUTF16_2_9 : decode cJ16_compareToUTF16_2 9 = .ok (.aload_n 1, 1) := dk_43 (dk_at dksJ16_compareToUTF16_2_0 9 rfl rfl)
theorem dJ16_compareToUTF16_2_10 : decode cJ16_compareToUTF16_2 10 = .ok (.invokestatic 58, 3) := dk_184 0 58 (dk_at dksJ16_compareToUTF16_2_0 10 rfl rfl)
theorem dJ16_compareToUTF16_2_13 : decode cJ16_compareToUTF16_2 13 = .ok (.invokestatic 62, 3) := dk_184 0 62 (dk_at dksJ16_compareToUTF16_2_0 13 rfl rfl)
theorem dJ16_compareToUTF16_2_16 : decode cJ16_compareToUTF16_2 16 = .ok (.aload_n 0, 1) := dk_42 (dk_at dksJ16_compareToUTF16_2_0 16 rfl rfl)
theorem dJ16_compareToUTF16_2_17 : decode cJ16_compareToUTF16_2 17 = .ok (.aload_n 1, 1) := dk_43 (dk_at dksJ16_compareToUTF16_2_0 17 rfl rfl)
theorem dJ16_compareToUTF16_2_18 : decode cJ16_compareToUTF16_2 18 = .ok (.iload_n 2, 1) := dk_28 (dk_at dksJ16_compareToUTF16_2_0 18 rfl rfl)
theorem dJ16_compareToUTF16_2_19 : decode cJ16_compareToUTF16_2 19 = .ok (.iload_n 3, 1) := dk_29 (dk_at dksJ16_compareToUTF16_2_0 19 rfl rfl)
theorem dJ16_compareToUTF16_2_20 : decode cJ16_compareToUTF16_2 20 = .ok (.invokestatic 59, 3) := dk_184 0 59 (dk_at dksJ16_compareToUTF16_2_0 20 rfl rfl)
theorem dJ16_compareToUTF16_2_23 : decode cJ16_compareToUTF16_2 23 = .ok (.ireturn, 1) := dk_172 (dk_at dksJ16_compareToUTF16_2_0 23 rfl rfl)
theorem q127 : (Jvm.Cond.initialized "java/lang/StringLatin1") ∈ lw_all := lw_g (lw_at lw_m1 28 rfl) rfl
theorem q436 : (Jvm.Cond.static ({ cls := "java/lang/StringLatin1", name := "canEncode", desc := "(C)Z" } : Jvm.MethodName)) ∈ lw_all := lw_g (lw_at lw_m2 97 rfl) rfl
theorem q437 : (Jvm.Cond.code ({ cls := "java/lang/StringLatin1", name := "canEncode", desc := "(C)Z" } : Jvm.MethodName) prog_70_method_3_code (1 : Nat) (Option.some Jvm.ClassFile.FieldType.boolean)) ∈ lw_all := lw_g (lw_at lw_m2 98 rfl) rfl
theorem q443 : (Jvm.Cond.static ({ cls := "java/lang/StringLatin1", name := "inflate", desc := "([BI[BII)V" } : Jvm.MethodName)) ∈ lw_all := lw_g (lw_at lw_m2 104 rfl) rfl
theorem q444 : (Jvm.Cond.code ({ cls := "java/lang/StringLatin1", name := "inflate", desc := "([BI[BII)V" } : Jvm.MethodName) prog_70_method_50_code (5 : Nat) (Option.none : Option Jvm.ClassFile.FieldType)) ∈ lw_all := lw_g (lw_at lw_m2 105 rfl) rfl
theorem q445 : (Jvm.Cond.methodLink "java/lang/StringLatin1" (240 : Nat) ({ cls := "java/lang/StringUTF16", name := "inflate", desc := "([BI[BII)V" } : Jvm.MethodName)) ∈ lw_all := lw_g (lw_at lw_m2 106 rfl) rfl
theorem q701 : (Jvm.Cond.static ({ cls := "java/lang/StringLatin1", name := "equals", desc := "([B[B)Z" } : Jvm.MethodName)) ∈ lw_all := lw_g (lw_at lw_m3 122 rfl) rfl
theorem q702 : (Jvm.Cond.code ({ cls := "java/lang/StringLatin1", name := "equals", desc := "([B[B)Z" } : Jvm.MethodName) prog_70_method_13_code (3 : Nat) (Option.some Jvm.ClassFile.FieldType.boolean)) ∈ lw_all := lw_g (lw_at lw_m3 123 rfl) rfl
theorem q724 : (Jvm.Cond.static ({ cls := "java/lang/StringLatin1", name := "indexOf", desc := "([BIII)I" } : Jvm.MethodName)) ∈ lw_all := lw_g (lw_at lw_m3 145 rfl) rfl
theorem q725 : (Jvm.Cond.code ({ cls := "java/lang/StringLatin1", name := "indexOf", desc := "([BIII)I" } : Jvm.MethodName) prog_70_method_22_code (4 : Nat) (Option.some Jvm.ClassFile.FieldType.int)) ∈ lw_all := lw_g (lw_at lw_m3 146 rfl) rfl
theorem q726 : (Jvm.Cond.methodLink "java/lang/StringLatin1" (88 : Nat) ({ cls := "java/lang/StringLatin1", name := "canEncode", desc := "(I)Z" } : Jvm.MethodName)) ∈ lw_all := lw_g (lw_at lw_m3 147 rfl) rfl
theorem q727 : (Jvm.Cond.static ({ cls := "java/lang/StringLatin1", name := "canEncode", desc := "(I)Z" } : Jvm.MethodName)) ∈ lw_all := lw_g (lw_at lw_m3 148 rfl) rfl
theorem q728 : (Jvm.Cond.code ({ cls := "java/lang/StringLatin1", name := "canEncode", desc := "(I)Z" } : Jvm.MethodName) prog_70_method_4_code (1 : Nat) (Option.some Jvm.ClassFile.FieldType.boolean)) ∈ lw_all := lw_g (lw_at lw_m3 149 rfl) rfl
theorem q729 : (Jvm.Cond.methodLink "java/lang/StringLatin1" (92 : Nat) ({ cls := "java/lang/Math", name := "max", desc := "(II)I" } : Jvm.MethodName)) ∈ lw_all := lw_g (lw_at lw_m3 150 rfl) rfl
theorem q730 : (Jvm.Cond.methodLink "java/lang/StringLatin1" (38 : Nat) ({ cls := "java/lang/Math", name := "min", desc := "(II)I" } : Jvm.MethodName)) ∈ lw_all := lw_g (lw_at lw_m3 151 rfl) rfl
theorem q731 : (Jvm.Cond.methodLink "java/lang/StringLatin1" (95 : Nat) ({ cls := "java/lang/StringLatin1", name := "indexOfChar", desc := "([BIII)I" } : Jvm.MethodName)) ∈ lw_all := lw_g (lw_at lw_m3 152 rfl) rfl
theorem q732 : (Jvm.Cond.static ({ cls := "java/lang/StringLatin1", name := "indexOfChar", desc := "([BIII)I" } : Jvm.MethodName)) ∈ lw_all := lw_g (lw_at lw_m3 153 rfl) rfl
theorem q733 : (Jvm.Cond.code ({ cls := "java/lang/StringLatin1", name := "indexOfChar", desc := "([BIII)I" } : Jvm.MethodName) prog_70_method_23_code (6 : Nat) (Option.some Jvm.ClassFile.FieldType.int)) ∈ lw_all := lw_g (lw_at lw_m3 154 rfl) rfl
theorem q1001 : (Jvm.Cond.static ({ cls := "java/lang/StringLatin1", name := "charAt", desc := "([BI)C" } : Jvm.MethodName)) ∈ lw_all := lw_g (lw_at lw_m4 182 rfl) rfl
theorem q1002 : (Jvm.Cond.code ({ cls := "java/lang/StringLatin1", name := "charAt", desc := "([BI)C" } : Jvm.MethodName) prog_70_method_2_code (2 : Nat) (Option.some Jvm.ClassFile.FieldType.char)) ∈ lw_all := lw_g (lw_at lw_m4 183 rfl) rfl
theorem q1003 : (Jvm.Cond.methodLink "java/lang/StringLatin1" (9 : Nat) ({ cls := "java/lang/String", name := "checkIndex", desc := "(II)V" } : Jvm.MethodName)) ∈ lw_all := lw_g (lw_at lw_m4 184 rfl) rfl
theorem q1103 : (Jvm.Cond.static ({ cls := "java/lang/StringLatin1", name := "hashCode", desc := "([B)I" } : Jvm.MethodName)) ∈ lw_all := lw_g (lw_at lw_m5 44 rfl) rfl
theorem q1104 : (Jvm.Cond.code ({ cls := "java/lang/StringLatin1", name := "hashCode", desc := "([B)I" } : Jvm.MethodName) prog_70_method_21_code (1 : Nat) (Option.some Jvm.ClassFile.FieldType.int)) ∈ lw_all := lw_g (lw_at lw_m5 45 rfl) rfl
theorem q1105 : (Jvm.Cond.methodLink "java/lang/StringLatin1" (84 : Nat) ({ cls := "jdk/internal/util/ArraysSupport", name := "vectorizedHashCode", desc := "(Ljava/lang/Object;IIII)I" } : Jvm.MethodName)) ∈ lw_all := lw_g (lw_at lw_m5 46 rfl) rfl
theorem q1377 : (Jvm.Cond.static ({ cls := "java/lang/StringLatin1", name := "compareTo", desc := "([B[B)I" } : Jvm.MethodName)) ∈ lw_all := lw_g (lw_at lw_m6 78 rfl) rfl
theorem q1378 : (Jvm.Cond.code ({ cls := "java/lang/StringLatin1", name := "compareTo", desc := "([B[B)I" } : Jvm.MethodName) prog_70_method_14_code (4 : Nat) (Option.some Jvm.ClassFile.FieldType.int)) ∈ lw_all := lw_g (lw_at lw_m6 79 rfl) rfl
theorem q1379 : (Jvm.Cond.methodLink "java/lang/StringLatin1" (34 : Nat) ({ cls := "java/lang/StringLatin1", name := "compareTo", desc := "([B[BII)I" } : Jvm.MethodName)) ∈ lw_all := lw_g (lw_at lw_m6 80 rfl) rfl
theorem q1380 : (Jvm.Cond.static ({ cls := "java/lang/StringLatin1", name := "compareTo", desc := "([B[BII)I" } : Jvm.MethodName)) ∈ lw_all := lw_g (lw_at lw_m6 81 rfl) rfl
theorem q1381 : (Jvm.Cond.code ({ cls := "java/lang/StringLatin1", name := "compareTo", desc := "([B[BII)I" } : Jvm.MethodName) prog_70_method_15_code (6 : Nat) (Option.some Jvm.ClassFile.FieldType.int)) ∈ lw_all := lw_g (lw_at lw_m6 82 rfl) rfl
theorem q1382 : (Jvm.Cond.methodLink "java/lang/StringLatin1" (44 : Nat) ({ cls := "jdk/internal/util/ArraysSupport", name := "mismatch", desc := "([B[BI)I" } : Jvm.MethodName)) ∈ lw_all := lw_g (lw_at lw_m6 83 rfl) rfl
theorem q1486 : (Jvm.Cond.methodLink "java/lang/StringLatin1" (50 : Nat) ({ cls := "java/lang/StringLatin1", name := "getChar", desc := "([BI)C" } : Jvm.MethodName)) ∈ lw_all := lw_g (lw_at lw_m6 187 rfl) rfl
theorem q1487 : (Jvm.Cond.static ({ cls := "java/lang/StringLatin1", name := "getChar", desc := "([BI)C" } : Jvm.MethodName)) ∈ lw_all := lw_g (lw_at lw_m6 188 rfl) rfl
theorem q1488 : (Jvm.Cond.code ({ cls := "java/lang/StringLatin1", name := "getChar", desc := "([BI)C" } : Jvm.MethodName) prog_70_method_44_code (2 : Nat) (Option.some Jvm.ClassFile.FieldType.char)) ∈ lw_all := lw_g (lw_at lw_m6 189 rfl) rfl
theorem q1496 : (Jvm.Cond.static ({ cls := "java/lang/StringLatin1", name := "compareToUTF16", desc := "([B[B)I" } : Jvm.MethodName)) ∈ lw_all := lw_g (lw_at lw_m6 197 rfl) rfl
theorem q1497 : (Jvm.Cond.code ({ cls := "java/lang/StringLatin1", name := "compareToUTF16", desc := "([B[B)I" } : Jvm.MethodName) prog_70_method_16_code (4 : Nat) (Option.some Jvm.ClassFile.FieldType.int)) ∈ lw_all := lw_g (lw_at lw_m6 198 rfl) rfl
theorem q1498 : (Jvm.Cond.methodLink "java/lang/StringLatin1" (54 : Nat) ({ cls := "java/lang/StringLatin1", name := "length", desc := "([B)I" } : Jvm.MethodName)) ∈ lw_all := lw_g (lw_at lw_m6 199 rfl) rfl
theorem q1499 : (Jvm.Cond.static ({ cls := "java/lang/StringLatin1", name := "length", desc := "([B)I" } : Jvm.MethodName)) ∈ lw_all := lw_g (lw_at lw_m6 200 rfl) rfl
theorem q1500 : (Jvm.Cond.code ({ cls := "java/lang/StringLatin1", name := "length", desc := "([B)I" } : Jvm.MethodName) prog_70_method_5_code (1 : Nat) (Option.some Jvm.ClassFile.FieldType.int)) ∈ lw_all := lw_g (lw_at lw_m6 201 rfl) rfl
theorem q1501 : (Jvm.Cond.methodLink "java/lang/StringLatin1" (58 : Nat) ({ cls := "java/lang/StringUTF16", name := "length", desc := "([B)I" } : Jvm.MethodName)) ∈ lw_all := lw_g (lw_at lw_m6 202 rfl) rfl
theorem q1502 : (Jvm.Cond.methodLink "java/lang/StringLatin1" (59 : Nat) ({ cls := "java/lang/StringLatin1", name := "compareToUTF16Values", desc := "([B[BII)I" } : Jvm.MethodName)) ∈ lw_all := lw_g (lw_at lw_m6 203 rfl) rfl
theorem q1503 : (Jvm.Cond.static ({ cls := "java/lang/StringLatin1", name := "compareToUTF16Values", desc := "([B[BII)I" } : Jvm.MethodName)) ∈ lw_all := lw_g (lw_at lw_m6 204 rfl) rfl
theorem q1504 : (Jvm.Cond.code ({ cls := "java/lang/StringLatin1", name := "compareToUTF16Values", desc := "([B[BII)I" } : Jvm.MethodName) prog_70_method_18_code (8 : Nat) (Option.some Jvm.ClassFile.FieldType.int)) ∈ lw_all := lw_g (lw_at lw_m6 205 rfl) rfl
theorem q1505 : (Jvm.Cond.methodLink "java/lang/StringLatin1" (65 : Nat) ({ cls := "java/lang/StringUTF16", name := "getChar", desc := "([BI)C" } : Jvm.MethodName)) ∈ lw_all := lw_g (lw_at lw_m6 206 rfl) rfl
theorem q1535 : (Jvm.Cond.static ({ cls := "java/lang/StringLatin1", name := "compareToUTF16", desc := "([B[BII)I" } : Jvm.MethodName)) ∈ lw_all := lw_g (lw_at lw_m6 236 rfl) rfl
theorem q1536 : (Jvm.Cond.code ({ cls := "java/lang/StringLatin1", name := "compareToUTF16", desc := "([B[BII)I" } : Jvm.MethodName) prog_70_method_17_code (4 : Nat) (Option.some Jvm.ClassFile.FieldType.int)) ∈ lw_all := lw_g (lw_at lw_m6 237 rfl) rfl
theorem q1537 : (Jvm.Cond.methodLink "java/lang/StringLatin1" (62 : Nat) ({ cls := "java/lang/String", name := "checkOffset", desc := "(II)V" } : Jvm.MethodName)) ∈ lw_all := lw_g (lw_at lw_m6 238 rfl) rfl

/-! jdk/internal/util/Preconditions -/
def RJ17 : String := "jdk/internal/util/Preconditions"
abbrev cJ17_checkFromIndexSize : ByteArray := prog_100_method_13_code
def yJ17_checkFromIndexSize : MethodName := ⟨RJ17, "checkFromIndexSize", "(IIILjava/util/function/BiFunction;)I"⟩
def dkwJ17_checkFromIndexSize_1 : List UInt8 := [172]
abbrev dktJ17_checkFromIndexSize_1 : List UInt8 := dkwJ17_checkFromIndexSize_1 ++ []
def dkwJ17_checkFromIndexSize_0 : List UInt8 := [28, 26, 128, 27, 128, 155, 0, 10, 27, 28, 26, 100, 164, 0, 11, 45, 26, 27, 28, 184, 0, 103, 191, 26]
abbrev dktJ17_checkFromIndexSize_0 : List UInt8 := dkwJ17_checkFromIndexSize_0 ++ dktJ17_checkFromIndexSize_1
theorem dksJ17_checkFromIndexSize_0 : cJ17_checkFromIndexSize.data.toList.drop 0 = dktJ17_checkFromIndexSize_0 := by decide +kernel
theorem dksJ17_checkFromIndexSize_1 : cJ17_checkFromIndexSize.data.toList.drop 24 = dktJ17_checkFromIndexSize_1 := dk_seg dksJ17_checkFromIndexSize_0 24 rfl rfl
theorem dJ17_checkFromIndexSize_0 : decode cJ17_checkFromIndexSize 0 = .ok (.iload_n 2, 1) := dk_28 (dk_at dksJ17_checkFromIndexSize_0 0 rfl rfl)
theorem dJ17_checkFromIndexSize_1 : decode cJ17_checkFromIndexSize 1 = .ok (.iload_n 0, 1) := dk_26 (dk_at dksJ17_checkFromIndexSize_0 1 rfl rfl)
theorem dJ17_checkFromIndexSize_2 : decode cJ17_checkFromIndexSize 2 = .ok (.ior, 1) := dk_128 (dk_at dksJ17_checkFromIndexSize_0 2 rfl rfl)
theorem dJ17_checkFromIndexSize_3 : decode cJ17_checkFromIndexSize 3 = .ok (.iload_n 1, 1) := dk_27 (dk_at dksJ17_checkFromIndexSize_0 3 rfl rfl)
theorem dJ17_checkFromIndexSize_4 : decode cJ17_checkFromIndexSize 4 = .ok (.ior, 1) := dk_128 (dk_at dksJ17_checkFromIndexSize_0 4 rfl rfl)
theorem dJ17_checkFromIndexSize_5 : decode cJ17_checkFromIndexSize 5 = .ok (.ifCond .lt 10, 3) := dk_155 0 10 (dk_at dksJ17_checkFromIndexSize_0 5 rfl rfl)
theorem dJ17_checkFromIndexSize_8 : decode cJ17_checkFromIndexSize 8 = .ok (.iload_n 1, 1) := dk_27 (dk_at dksJ17_checkFromIndexSize_0 8 rfl rfl)
theorem dJ17_checkFromIndexSize_9 : decode cJ17_checkFromIndexSize 9 = .ok (.iload_n 2, 1) := dk_28 (dk_at dksJ17_checkFromIndexSize_0 9 rfl rfl)
theorem dJ17_checkFromIndexSize_10 : decode cJ17_checkFromIndexSize 10 = .ok (.iload_n 0, 1) := dk_26 (dk_at dksJ17_checkFromIndexSize_0 10 rfl rfl)
theorem dJ17_checkFromIndexSize_11 : decode cJ17_checkFromIndexSize 11 = .ok (.isub, 1) := dk_100 (dk_at dksJ17_checkFromIndexSize_0 11 rfl rfl)
theorem dJ17_checkFromIndexSize_12 : decode cJ17_checkFromIndexSize 12 = .ok (.if_icmp .le 11, 3) := dk_164 0 11 (dk_at dksJ17_checkFromIndexSize_0 12 rfl rfl)
theorem dJ17_checkFromIndexSize_15 : decode cJ17_checkFromIndexSize 15 = .ok (.aload_n 3, 1) := dk_45 (dk_at dksJ17_checkFromIndexSize_0 15 rfl rfl)
theorem dJ17_checkFromIndexSize_16 : decode cJ17_checkFromIndexSize 16 = .ok (.iload_n 0, 1) := dk_26 (dk_at dksJ17_checkFromIndexSize_0 16 rfl rfl)
theorem dJ17_checkFromIndexSize_17 : decode cJ17_checkFromIndexSize 17 = .ok (.iload_n 1, 1) := dk_27 (dk_at dksJ17_checkFromIndexSize_0 17 rfl rfl)
theorem dJ17_checkFromIndexSize_18 : decode cJ17_checkFromIndexSize 18 = .ok (.iload_n 2, 1) := dk_28 (dk_at dksJ17_checkFromIndexSize_0 18 rfl rfl)
theorem dJ17_checkFromIndexSize_19 : decode cJ17_checkFromIndexSize 19 = .ok (.invokestatic 103, 3) := dk_184 0 103 (dk_at dksJ17_checkFromIndexSize_0 19 rfl rfl)
theorem dJ17_checkFromIndexSize_22 : decode cJ17_checkFromIndexSize 22 = .ok (.athrow, 1) := dk_191 (dk_at dksJ17_checkFromIndexSize_0 22 rfl rfl)
theorem dJ17_checkFromIndexSize_23 : decode cJ17_checkFromIndexSize 23 = .ok (.iload_n 0, 1) := dk_26 (dk_at dksJ17_checkFromIndexSize_0 23 rfl rfl)
theorem dJ17_checkFromIndexSize_24 : decode cJ17_checkFromIndexSize 24 = .ok (.ireturn, 1) := dk_172 (dk_at dksJ17_checkFromIndexSize_1 0 rfl rfl)
abbrev cJ17_checkIndex : ByteArray := prog_100_method_11_code
def yJ17_checkIndex : MethodName := ⟨RJ17, "checkIndex", "(IILjava/util/function/BiFunction;)I"⟩
def dkwJ17_checkIndex_0 : List UInt8 := [26, 155, 0, 8, 26, 27, 161, 0, 10, 44, 26, 27, 184, 0, 95, 191, 26, 172]
abbrev dktJ17_checkIndex_0 : List UInt8 := dkwJ17_checkIndex_0 ++ []
theorem dksJ17_checkIndex_0 : cJ17_checkIndex.data.toList.drop 0 = dktJ17_checkIndex_0 := by decide +kernel
theorem dJ17_checkIndex_0 : decode cJ17_checkIndex 0 = .ok (.iload_n 0, 1) := dk_26 (dk_at dksJ17_checkIndex_0 0 rfl rfl)
theorem dJ17_checkIndex_1 : decode cJ17_checkIndex 1 = .ok (.ifCond .lt 8, 3) := dk_155 0 8 (dk_at dksJ17_checkIndex_0 1 rfl rfl)
theorem dJ17_checkIndex_4 : decode cJ17_checkIndex 4 = .ok (.iload_n 0, 1) := dk_26 (dk_at dksJ17_checkIndex_0 4 rfl rfl)
theorem dJ17_checkIndex_5 : decode cJ17_checkIndex 5 = .ok (.iload_n 1, 1) := dk_27 (dk_at dksJ17_checkIndex_0 5 rfl rfl)
theorem dJ17_checkIndex_6 : decode cJ17_checkIndex 6 = .ok (.if_icmp .lt 10, 3) := dk_161 0 10 (dk_at dksJ17_checkIndex_0 6 rfl rfl)
theorem dJ17_checkIndex_9 : decode cJ17_checkIndex 9 = .ok (.aload_n 2, 1) := dk_44 (dk_at dksJ17_checkIndex_0 9 rfl rfl)
theorem dJ17_checkIndex_10 : decode cJ17_checkIndex 10 = .ok (.iload_n 0, 1) := dk_26 (dk_at dksJ17_checkIndex_0 10 rfl rfl)
theorem dJ17_checkIndex_11 : decode cJ17_checkIndex 11 = .ok (.iload_n 1, 1) := dk_27 (dk_at dksJ17_checkIndex_0 11 rfl rfl)
theorem dJ17_checkIndex_12 : decode cJ17_checkIndex 12 = .ok (.invokestatic 95, 3) := dk_184 0 95 (dk_at dksJ17_checkIndex_0 12 rfl rfl)
theorem dJ17_checkIndex_15 : decode cJ17_checkIndex 15 = .ok (.athrow, 1) := dk_191 (dk_at dksJ17_checkIndex_0 15 rfl rfl)
theorem dJ17_checkIndex_16 : decode cJ17_checkIndex 16 = .ok (.iload_n 0, 1) := dk_26 (dk_at dksJ17_checkIndex_0 16 rfl rfl)
theorem dJ17_checkIndex_17 : decode cJ17_checkIndex 17 = .ok (.ireturn, 1) := dk_172 (dk_at dksJ17_checkIndex_0 17 rfl rfl)
abbrev cJ17_checkFromToIndex : ByteArray := prog_100_method_12_code
def yJ17_checkFromToIndex : MethodName := ⟨RJ17, "checkFromToIndex", "(IIILjava/util/function/BiFunction;)I"⟩
def dkwJ17_checkFromToIndex_0 : List UInt8 := [26, 155, 0, 13, 26, 27, 163, 0, 8, 27, 28, 164, 0, 11, 45, 26, 27, 28, 184, 0, 99, 191, 26, 172]
abbrev dktJ17_checkFromToIndex_0 : List UInt8 := dkwJ17_checkFromToIndex_0 ++ []
theorem dksJ17_checkFromToIndex_0 : cJ17_checkFromToIndex.data.toList.drop 0 = dktJ17_checkFromToIndex_0 := by decide +kernel
theorem dJ17_checkFromToIndex_0 : decode cJ17_checkFromToIndex 0 = .ok (.iload_n 0, 1) := dk_26 (dk_at dksJ17_checkFromToIndex_0 0 rfl rfl)
theorem dJ17_checkFromToIndex_1 : decode cJ17_checkFromToIndex 1 = .ok (.ifCond .lt 13, 3) := dk_155 0 13 (dk_at dksJ17_checkFromToIndex_0 1 rfl rfl)
theorem dJ17_checkFromToIndex_4 : decode cJ17_checkFromToIndex 4 = .ok (.iload_n 0, 1) := dk_26 (dk_at dksJ17_checkFromToIndex_0 4 rfl rfl)
theorem dJ17_checkFromToIndex_5 : decode cJ17_checkFromToIndex 5 = .ok (.iload_n 1, 1) := dk_27 (dk_at dksJ17_checkFromToIndex_0 5 rfl rfl)
theorem dJ17_checkFromToIndex_6 : decode cJ17_checkFromToIndex 6 = .ok (.if_icmp .gt 8, 3) := dk_163 0 8 (dk_at dksJ17_checkFromToIndex_0 6 rfl rfl)
theorem dJ17_checkFromToIndex_9 : decode cJ17_checkFromToIndex 9 = .ok (.iload_n 1, 1) := dk_27 (dk_at dksJ17_checkFromToIndex_0 9 rfl rfl)
theorem dJ17_checkFromToIndex_10 : decode cJ17_checkFromToIndex 10 = .ok (.iload_n 2, 1) := dk_28 (dk_at dksJ17_checkFromToIndex_0 10 rfl rfl)
theorem dJ17_checkFromToIndex_11 : decode cJ17_checkFromToIndex 11 = .ok (.if_icmp .le 11, 3) := dk_164 0 11 (dk_at dksJ17_checkFromToIndex_0 11 rfl rfl)
theorem dJ17_checkFromToIndex_14 : decode cJ17_checkFromToIndex 14 = .ok (.aload_n 3, 1) := dk_45 (dk_at dksJ17_checkFromToIndex_0 14 rfl rfl)
theorem dJ17_checkFromToIndex_15 : decode cJ17_checkFromToIndex 15 = .ok (.iload_n 0, 1) := dk_26 (dk_at dksJ17_checkFromToIndex_0 15 rfl rfl)
theorem dJ17_checkFromToIndex_16 : decode cJ17_checkFromToIndex 16 = .ok (.iload_n 1, 1) := dk_27 (dk_at dksJ17_checkFromToIndex_0 16 rfl rfl)
theorem dJ17_checkFromToIndex_17 : decode cJ17_checkFromToIndex 17 = .ok (.iload_n 2, 1) := dk_28 (dk_at dksJ17_checkFromToIndex_0 17 rfl rfl)
theorem dJ17_checkFromToIndex_18 : decode cJ17_checkFromToIndex 18 = .ok (.invokestatic 99, 3) := dk_184 0 99 (dk_at dksJ17_checkFromToIndex_0 18 rfl rfl)
theorem dJ17_checkFromToIndex_21 : decode cJ17_checkFromToIndex 21 = .ok (.athrow, 1) := dk_191 (dk_at dksJ17_checkFromToIndex_0 21 rfl rfl)
theorem dJ17_checkFromToIndex_22 : decode cJ17_checkFromToIndex 22 = .ok (.iload_n 0, 1) := dk_26 (dk_at dksJ17_checkFromToIndex_0 22 rfl rfl)
theorem dJ17_checkFromToIndex_23 : decode cJ17_checkFromToIndex 23 = .ok (.ireturn, 1) := dk_172 (dk_at dksJ17_checkFromToIndex_0 23 rfl rfl)
theorem q128 : (Jvm.Cond.initialized "jdk/internal/util/Preconditions") ∈ lw_all := lw_g (lw_at lw_m1 29 rfl) rfl
theorem q458 : (Jvm.Cond.laysStatic "jdk/internal/util/Preconditions" "SIOOBE_FORMATTER" "Ljava/util/function/BiFunction;") ∈ lw_tbl := lw_at lw_m2 119 rfl
theorem q460 : (Jvm.Cond.static ({ cls := "jdk/internal/util/Preconditions", name := "checkFromIndexSize", desc := "(IIILjava/util/function/BiFunction;)I" } : Jvm.MethodName)) ∈ lw_all := lw_g (lw_at lw_m2 121 rfl) rfl
theorem q461 : (Jvm.Cond.code ({ cls := "jdk/internal/util/Preconditions", name := "checkFromIndexSize", desc := "(IIILjava/util/function/BiFunction;)I" } : Jvm.MethodName) prog_100_method_13_code (4 : Nat) (Option.some Jvm.ClassFile.FieldType.int)) ∈ lw_all := lw_g (lw_at lw_m2 122 rfl) rfl
theorem q481 : (Jvm.Cond.static ({ cls := "jdk/internal/util/Preconditions", name := "checkIndex", desc := "(IILjava/util/function/BiFunction;)I" } : Jvm.MethodName)) ∈ lw_all := lw_g (lw_at lw_m2 142 rfl) rfl
theorem q482 : (Jvm.Cond.code ({ cls := "jdk/internal/util/Preconditions", name := "checkIndex", desc := "(IILjava/util/function/BiFunction;)I" } : Jvm.MethodName) prog_100_method_11_code (3 : Nat) (Option.some Jvm.ClassFile.FieldType.int)) ∈ lw_all := lw_g (lw_at lw_m2 143 rfl) rfl
theorem q591 : (Jvm.Cond.static ({ cls := "jdk/internal/util/Preconditions", name := "checkFromToIndex", desc := "(IIILjava/util/function/BiFunction;)I" } : Jvm.MethodName)) ∈ lw_all := lw_g (lw_at lw_m3 12 rfl) rfl
theorem q592 : (Jvm.Cond.code ({ cls := "jdk/internal/util/Preconditions", name := "checkFromToIndex", desc := "(IIILjava/util/function/BiFunction;)I" } : Jvm.MethodName) prog_100_method_12_code (4 : Nat) (Option.some Jvm.ClassFile.FieldType.int)) ∈ lw_all := lw_g (lw_at lw_m3 13 rfl) rfl

/-! java/lang/Number -/
def RJ18 : String := "java/lang/Number"
abbrev cJ18_init : ByteArray := prog_66_method_1_code
def yJ18_init : MethodName := ⟨RJ18, "<init>", "()V"⟩
theorem dJ18_init_0 : decode cJ18_init 0 = .ok (.aload_n 0, 1) := by decide +kernel
theorem dJ18_init_1 : decode cJ18_init 1 = .ok (.invokespecial 1, 3) := by decide +kernel
theorem dJ18_init_4 : decode cJ18_init 4 = .ok (.return_, 1) := by decide +kernel
theorem q129 : (Jvm.Cond.initialized "java/lang/Number") ∈ lw_all := lw_g (lw_at lw_m1 30 rfl) rfl
theorem q1573 : (Jvm.Cond.instanceMethod ({ cls := "java/lang/Number", name := "<init>", desc := "()V" } : Jvm.MethodName)) ∈ lw_all := lw_g (lw_at lw_m7 34 rfl) rfl
theorem q1574 : (Jvm.Cond.code ({ cls := "java/lang/Number", name := "<init>", desc := "()V" } : Jvm.MethodName) prog_66_method_1_code (1 : Nat) (Option.none : Option Jvm.ClassFile.FieldType)) ∈ lw_all := lw_g (lw_at lw_m7 35 rfl) rfl
theorem q1575 : (Jvm.Cond.methodLink "java/lang/Number" (1 : Nat) ({ cls := "java/lang/Object", name := "<init>", desc := "()V" } : Jvm.MethodName)) ∈ lw_all := lw_g (lw_at lw_m7 36 rfl) rfl

/-! java/lang/Integer -/
def RJ19 : String := "java/lang/Integer"
def TJ19 : u_T := fun k => match k with
  | _ => ("java/lang/Integer", "value", "I", true)
def tyJ19 : Nat → FieldType := fun k => match k with
  | _ => .int
abbrev wsJ190 : List Cond := u_ws RJ19 TJ19 1
theorem nmJ19 : ∀ a, a < 1 → ∀ b, b < 1 → a ≠ b → (TJ19 a).2.1 ≠ (TJ19 b).2.1 := by decide +kernel
theorem tyJ19_ok : ∀ k, k < 1 → parseFieldDescriptor (TJ19 k).2.2.1 = some (tyJ19 k) := by decide +kernel
abbrev cJ19_stringSize : ByteArray := prog_61_method_13_code
def yJ19_stringSize : MethodName := ⟨RJ19, "stringSize", "(I)I"⟩
def dkwJ19_stringSize_1 : List UInt8 := [164, 0, 7, 29, 27, 96, 172, 16, 10, 28, 104, 61, 132, 3, 1, 167, 255, 233, 16, 10, 27, 96, 172]
abbrev dktJ19_stringSize_1 : List UInt8 := dkwJ19_stringSize_1 ++ []
def dkwJ19_stringSize_0 : List UInt8 := [4, 60, 26, 155, 0, 8, 3, 60, 26, 116, 59, 16, 246, 61, 4, 62, 29, 16, 10, 162, 0, 23, 26, 28]
abbrev dktJ19_stringSize_0 : List UInt8 := dkwJ19_stringSize_0 ++ dktJ19_stringSize_1
theorem dksJ19_stringSize_0 : cJ19_stringSize.data.toList.drop 0 = dktJ19_stringSize_0 := by decide +kernel
theorem dksJ19_stringSize_1 : cJ19_stringSize.data.toList.drop 24 = dktJ19_stringSize_1 := dk_seg dksJ19_stringSize_0 24 rfl rfl
theorem dJ19_stringSize_0 : decode cJ19_stringSize 0 = .ok (.iconst 1, 1) := dk_4 (dk_at dksJ19_stringSize_0 0 rfl rfl)
theorem dJ19_stringSize_1 : decode cJ19_stringSize 1 = .ok (.istore_n 1, 1) := dk_60 (dk_at dksJ19_stringSize_0 1 rfl rfl)
theorem dJ19_stringSize_2 : decode cJ19_stringSize 2 = .ok (.iload_n 0, 1) := dk_26 (dk_at dksJ19_stringSize_0 2 rfl rfl)
theorem dJ19_stringSize_3 : decode cJ19_stringSize 3 = .ok (.ifCond .lt 8, 3) := dk_155 0 8 (dk_at dksJ19_stringSize_0 3 rfl rfl)
theorem dJ19_stringSize_6 : decode cJ19_stringSize 6 = .ok (.iconst 0, 1) := dk_3 (dk_at dksJ19_stringSize_0 6 rfl rfl)
theorem dJ19_stringSize_7 : decode cJ19_stringSize 7 = .ok (.istore_n 1, 1) := dk_60 (dk_at dksJ19_stringSize_0 7 rfl rfl)
theorem dJ19_stringSize_8 : decode cJ19_stringSize 8 = .ok (.iload_n 0, 1) := dk_26 (dk_at dksJ19_stringSize_0 8 rfl rfl)
theorem dJ19_stringSize_9 : decode cJ19_stringSize 9 = .ok (.ineg, 1) := dk_116 (dk_at dksJ19_stringSize_0 9 rfl rfl)
theorem dJ19_stringSize_10 : decode cJ19_stringSize 10 = .ok (.istore_n 0, 1) := dk_59 (dk_at dksJ19_stringSize_0 10 rfl rfl)
theorem dJ19_stringSize_11 : decode cJ19_stringSize 11 = .ok (.bipush (-10), 2) := dk_16 246 (dk_at dksJ19_stringSize_0 11 rfl rfl)
theorem dJ19_stringSize_13 : decode cJ19_stringSize 13 = .ok (.istore_n 2, 1) := dk_61 (dk_at dksJ19_stringSize_0 13 rfl rfl)
theorem dJ19_stringSize_14 : decode cJ19_stringSize 14 = .ok (.iconst 1, 1) := dk_4 (dk_at dksJ19_stringSize_0 14 rfl rfl)
theorem dJ19_stringSize_15 : decode cJ19_stringSize 15 = .ok (.istore_n 3, 1) := dk_62 (dk_at dksJ19_stringSize_0 15 rfl rfl)
theorem dJ19_stringSize_16 : decode cJ19_stringSize 16 = .ok (.iload_n 3, 1) := dk_29 (dk_at dksJ19_stringSize_0 16 rfl rfl)
theorem dJ19_stringSize_17 : decode cJ19_stringSize 17 = .ok (.bipush 10, 2) := dk_16 10 (dk_at dksJ19_stringSize_0 17 rfl rfl)
theorem dJ19_stringSize_19 : decode cJ19_stringSize 19 = .ok (.if_icmp .ge 23, 3) := dk_162 0 23 (dk_at dksJ19_stringSize_0 19 rfl rfl)
theorem dJ19_stringSize_22 : decode cJ19_stringSize 22 = .ok (.iload_n 0, 1) := dk_26 (dk_at dksJ19_stringSize_0 22 rfl rfl)
theorem dJ19_stringSize_23 : decode cJ19_stringSize 23 = .ok (.iload_n 2, 1) := dk_28 (dk_at dksJ19_stringSize_0 23 rfl rfl)
theorem dJ19_stringSize_24 : decode cJ19_stringSize 24 = .ok (.if_icmp .le 7, 3) := dk_164 0 7 (dk_at dksJ19_stringSize_1 0 rfl rfl)
theorem dJ19_stringSize_27 : decode cJ19_stringSize 27 = .ok (.iload_n 3, 1) := dk_29 (dk_at dksJ19_stringSize_1 3 rfl rfl)
theorem dJ19_stringSize_28 : decode cJ19_stringSize 28 = .ok (.iload_n 1, 1) := dk_27 (dk_at dksJ19_stringSize_1 4 rfl rfl)
theorem dJ19_stringSize_29 : decode cJ19_stringSize 29 = .ok (.iadd, 1) := dk_96 (dk_at dksJ19_stringSize_1 5 rfl rfl)
theorem dJ19_stringSize_30 : decode cJ19_stringSize 30 = .ok (.ireturn, 1) := dk_172 (dk_at dksJ19_stringSize_1 6 rfl rfl)
theorem dJ19_stringSize_31 : decode cJ19_stringSize 31 = .ok (.bipush 10, 2) := dk_16 10 (dk_at dksJ19_stringSize_1 7 rfl rfl)
theorem dJ19_stringSize_33 : decode cJ19_stringSize 33 = .ok (.iload_n 2, 1) := dk_28 (dk_at dksJ19_stringSize_1 9 rfl rfl)
theorem dJ19_stringSize_34 : decode cJ19_stringSize 34 = .ok (.imul, 1) := dk_104 (dk_at dksJ19_stringSize_1 10 rfl rfl)
theorem dJ19_stringSize_35 : decode cJ19_stringSize 35 = .ok (.istore_n 2, 1) := dk_61 (dk_at dksJ19_stringSize_1 11 rfl rfl)
theorem dJ19_stringSize_36 : decode cJ19_stringSize 36 = .ok (.iinc 3 1, 3) := dk_132 3 1 (dk_at dksJ19_stringSize_1 12 rfl rfl)
theorem dJ19_stringSize_39 : decode cJ19_stringSize 39 = .ok (.goto (-23), 3) := dk_167 255 233 (dk_at dksJ19_stringSize_1 15 rfl rfl)
theorem dJ19_stringSize_42 : decode cJ19_stringSize 42 = .ok (.bipush 10, 2) := dk_16 10 (dk_at dksJ19_stringSize_1 18 rfl rfl)
theorem dJ19_stringSize_44 : decode cJ19_stringSize 44 = .ok (.iload_n 1, 1) := dk_27 (dk_at dksJ19_stringSize_1 20 rfl rfl)
theorem dJ19_stringSize_45 : decode cJ19_stringSize 45 = .ok (.iadd, 1) := dk_96 (dk_at dksJ19_stringSize_1 21 rfl rfl)
theorem dJ19_stringSize_46 : decode cJ19_stringSize 46 = .ok (.ireturn, 1) := dk_172 (dk_at dksJ19_stringSize_1 22 rfl rfl)
abbrev cJ19_getChars : ByteArray := prog_61_method_12_code
def yJ19_getChars : MethodName := ⟨RJ19, "getChars", "(II[B)I"⟩
def dkwJ19_getChars_5 : List UInt8 := [16, 45, 84, 21, 5, 172]
abbrev dktJ19_getChars_5 : List UInt8 := dkwJ19_getChars_5 ++ []
def dkwJ19_getChars_4 : List UInt8 := [132, 5, 255, 21, 5, 178, 0, 87, 26, 116, 51, 84, 21, 6, 153, 0, 12, 44, 132, 5, 255, 21, 5]
abbrev dktJ19_getChars_4 : List UInt8 := dkwJ19_getChars_4 ++ dktJ19_getChars_5
def dkwJ19_getChars_3 : List UInt8 := [167, 255, 209, 44, 132, 5, 255, 21, 5, 178, 0, 83, 26, 116, 51, 84, 26, 16, 247, 162, 0, 16, 44]
abbrev dktJ19_getChars_3 : List UInt8 := dkwJ19_getChars_3 ++ dktJ19_getChars_4
def dkwJ19_getChars_2 : List UInt8 := [21, 5, 178, 0, 83, 21, 4, 51, 84, 44, 132, 5, 255, 21, 5, 178, 0, 87, 21, 4, 51, 84]
abbrev dktJ19_getChars_2 : List UInt8 := dkwJ19_getChars_2 ++ dktJ19_getChars_3
def dkwJ19_getChars_1 : List UInt8 := [16, 156, 163, 0, 47, 26, 16, 100, 108, 62, 29, 16, 100, 104, 26, 100, 54, 4, 29, 59, 44, 132, 5, 255]
abbrev dktJ19_getChars_1 : List UInt8 := dkwJ19_getChars_1 ++ dktJ19_getChars_2
def dkwJ19_getChars_0 : List UInt8 := [27, 54, 5, 26, 156, 0, 7, 4, 167, 0, 4, 3, 54, 6, 21, 6, 154, 0, 6, 26, 116, 59, 26]
abbrev dktJ19_getChars_0 : List UInt8 := dkwJ19_getChars_0 ++ dktJ19_getChars_1
theorem dksJ19_getChars_0 : cJ19_getChars.data.toList.drop 0 = dktJ19_getChars_0 := by decide +kernel
theorem dksJ19_getChars_1 : cJ19_getChars.data.toList.drop 23 = dktJ19_getChars_1 := dk_seg dksJ19_getChars_0 23 rfl rfl
theorem dksJ19_getChars_2 : cJ19_getChars.data.toList.drop 47 = dktJ19_getChars_2 := dk_seg dksJ19_getChars_1 24 rfl rfl
theorem dksJ19_getChars_3 : cJ19_getChars.data.toList.drop 69 = dktJ19_getChars_3 := dk_seg dksJ19_getChars_2 22 rfl rfl
theorem dksJ19_getChars_4 : cJ19_getChars.data.toList.drop 92 = dktJ19_getChars_4 := dk_seg dksJ19_getChars_3 23 rfl rfl
theorem dksJ19_getChars_5 : cJ19_getChars.data.toList.drop 115 = dktJ19_getChars_5 := dk_seg dksJ19_getChars_4 23 rfl rfl
theorem dJ19_getChars_0 : decode cJ19_getChars 0 = .ok (.iload_n 1, 1) := dk_27 (dk_at dksJ19_getChars_0 0 rfl rfl)
theorem dJ19_getChars_1 : decode cJ19_getChars 1 = .ok (.istore 5, 2) := dk_54 5 (dk_at dksJ19_getChars_0 1 rfl rfl)
theorem dJ19_getChars_3 : decode cJ19_getChars 3 = .ok (.iload_n 0, 1) := dk_26 (dk_at dksJ19_getChars_0 3 rfl rfl)
theorem dJ19_getChars_4 : decode cJ19_getChars 4 = .ok (.ifCond .ge 7, 3) := dk_156 0 7 (dk_at dksJ19_getChars_0 4 rfl rfl)
theorem dJ19_getChars_7 : decode cJ19_getChars 7 = .ok (.iconst 1, 1) := dk_4 (dk_at dksJ19_getChars_0 7 rfl rfl)
theorem dJ19_getChars_8 : decode cJ19_getChars 8 = .ok (.goto 4, 3) := dk_167 0 4 (dk_at dksJ19_getChars_0 8 rfl rfl)
theorem dJ19_getChars_11 : decode cJ19_getChars 11 = .ok (.iconst 0, 1) := dk_3 (dk_at dksJ19_getChars_0 11 rfl rfl)
theorem dJ19_getChars_12 : decode cJ19_getChars 12 = .ok (.istore 6, 2) := dk_54 6 (dk_at dksJ19_getChars_0 12 rfl rfl)
theorem dJ19_getChars_14 : decode cJ19_getChars 14 = .ok (.iload 6, 2) := dk_21 6 (dk_at dksJ19_getChars_0 14 rfl rfl)
theorem dJ19_getChars_16 : decode cJ19_getChars 16 = .ok (.ifCond .ne 6, 3) := dk_154 0 6 (dk_at dksJ19_getChars_0 16 rfl rfl)
theorem dJ19_getChars_19 : decode cJ19_getChars 19 = .ok (.iload_n 0, 1) := dk_26 (dk_at dksJ19_getChars_0 19 rfl rfl)
theorem dJ19_getChars_20 : decode cJ19_getChars 20 = .ok (.ineg, 1) := dk_116 (dk_at dksJ19_getChars_0 20 rfl rfl)
theorem dJ19_getChars_21 : decode cJ19_getChars 21 = .ok (.istore_n 0, 1) := dk_59 (dk_at dksJ19_getChars_0 21 rfl rfl)
theorem dJ19_getChars_22 : decode cJ19_getChars 22 = .ok (.iload_n 0, 1) := dk_26 (dk_at dksJ19_getChars_0 22 rfl rfl)
theorem dJ19_getChars_23 : decode cJ19_getChars 23 = .ok (.bipush (-100), 2) := dk_16 156 (dk_at dksJ19_getChars_1 0 rfl rfl)
theorem dJ19_getChars_25 : decode cJ19_getChars 25 = .ok (.if_icmp .gt 47, 3) := dk_163 0 47 (dk_at dksJ19_getChars_1 2 rfl rfl)
theorem dJ19_getChars_28 : decode cJ19_getChars 28 = .ok (.iload_n 0, 1) := dk_26 (dk_at dksJ19_getChars_1 5 rfl rfl)
theorem dJ19_getChars_29 : decode cJ19_getChars 29 = .ok (.bipush 100, 2) := dk_16 100 (dk_at dksJ19_getChars_1 6 rfl rfl)
theorem dJ19_getChars_31 : decode cJ19_getChars 31 = .ok (.idiv, 1) := dk_108 (dk_at dksJ19_getChars_1 8 rfl rfl)
theorem dJ19_getChars_32 : decode cJ19_getChars 32 = .ok (.istore_n 3, 1) := dk_62 (dk_at dksJ19_getChars_1 9 rfl rfl)
theorem dJ19_getChars_33 : decode cJ19_getChars 33 = .ok (.iload_n 3, 1) := dk_29 (dk_at dksJ19_getChars_1 10 rfl rfl)
theorem dJ19_getChars_34 : decode cJ19_getChars 34 = .ok (.bipush 100, 2) := dk_16 100 (dk_at dksJ19_getChars_1 11 rfl rfl)
theorem dJ19_getChars_36 : decode cJ19_getChars 36 = .ok (.imul, 1) := dk_104 (dk_at dksJ19_getChars_1 13 rfl rfl)
theorem dJ19_getChars_37 : decode cJ19_getChars 37 = .ok (.iload_n 0, 1) := dk_26 (dk_at dksJ19_getChars_1 14 rfl rfl)
theorem dJ19_getChars_38 : decode cJ19_getChars 38 = .ok (.isub, 1) := dk_100 (dk_at dksJ19_getChars_1 15 rfl rfl)
theorem dJ19_getChars_39 : decode cJ19_getChars 39 = .ok (.istore 4, 2) := dk_54 4 (dk_at dksJ19_getChars_1 16 rfl rfl)
theorem dJ19_getChars_41 : decode cJ19_getChars 41 = .ok (.iload_n 3, 1) := dk_29 (dk_at dksJ19_getChars_1 18 rfl rfl)
theorem dJ19_getChars_42 : decode cJ19_getChars 42 = .ok (.istore_n 0, 1) := dk_59 (dk_at dksJ19_getChars_1 19 rfl rfl)
theorem dJ19_getChars_43 : decode cJ19_getChars 43 = .ok (.aload_n 2, 1) := dk_44 (dk_at dksJ19_getChars_1 20 rfl rfl)
theorem dJ19_getChars_44 : decode cJ19_getChars 44 = .ok (.iinc 5 (-1), 3) := dk_132 5 255 (dk_at dksJ19_getChars_1 21 rfl rfl)
theorem dJ19_getChars_47 : decode cJ19_getChars 47 = .ok (.iload 5, 2) := dk_21 5 (dk_at dksJ19_getChars_2 0 rfl rfl)
theorem dJ19_getChars_49 : decode cJ19_getChars 49 = .ok (.getstatic 83, 3) := dk_178 0 83 (dk_at dksJ19_getChars_2 2 rfl rfl)
theorem dJ19_getChars_52 : decode cJ19_getChars 52 = .ok (.iload 4, 2) := dk_21 4 (dk_at dksJ19_getChars_2 5 rfl rfl)
theorem dJ19_getChars_54 : decode cJ19_getChars 54 = .ok (.baload, 1) := dk_51 (dk_at dksJ19_getChars_2 7 rfl rfl)
theorem dJ19_getChars_55 : decode cJ19_getChars 55 = .ok (.bastore, 1) := dk_84 (dk_at dksJ19_getChars_2 8 rfl rfl)
theorem dJ19_getChars_56 : decode cJ19_getChars 56 = .ok (.aload_n 2, 1) := dk_44 (dk_at dksJ19_getChars_2 9 rfl rfl)
theorem dJ19_getChars_57 : decode cJ19_getChars 57 = .ok (.iinc 5 (-1), 3) := dk_132 5 255 (dk_at dksJ19_getChars_2 10 rfl rfl)
theorem dJ19_getChars_60 : decode cJ19_getChars 60 = .ok (.iload 5, 2) := dk_21 5 (dk_at dksJ19_getChars_2 13 rfl rfl)
theorem dJ19_getChars_62 : decode cJ19_getChars 62 = .ok (.getstatic 87, 3) := dk_178 0 87 (dk_at dksJ19_getChars_2 15 rfl rfl)
theorem dJ19_getChars_65 : decode cJ19_getChars 65 = .ok (.iload 4, 2) := dk_21 4 (dk_at dksJ19_getChars_2 18 rfl rfl)
theorem dJ19_getChars_67 : decode cJ19_getChars 67 = .ok (.baload, 1) := dk_51 (dk_at dksJ19_getChars_2 20 rfl rfl)
theorem dJ19_getChars_68 : decode cJ19_getChars 68 = .ok (.bastore, 1) := dk_84 (dk_at dksJ19_getChars_2 21 rfl rfl)
theorem dJ19_getChars_69 : decode cJ19_getChars 69 = .ok (.goto (-47), 3) := dk_167 255 209 (dk_at dksJ19_getChars_3 0 rfl rfl)
theorem dJ19_getChars_72 : decode cJ19_getChars 72 = .ok (.aload_n 2, 1) := dk_44 (dk_at dksJ19_getChars_3 3 rfl rfl)
theorem dJ19_getChars_73 : decode cJ19_getChars 73 = .ok (.iinc 5 (-1), 3) := dk_132 5 255 (dk_at dksJ19_getChars_3 4 rfl rfl)
theorem dJ19_getChars_76 : decode cJ19_getChars 76 = .ok (.iload 5, 2) := dk_21 5 (dk_at dksJ19_getChars_3 7 rfl rfl)
theorem dJ19_getChars_78 : decode cJ19_getChars 78 = .ok (.getstatic 83, 3) := dk_178 0 83 (dk_at dksJ19_getChars_3 9 rfl rfl)
theorem dJ19_getChars_81 : decode cJ19_getChars 81 = .ok (.iload_n 0, 1) := dk_26 (dk_at dksJ19_getChars_3 12 rfl rfl)
theorem dJ19_getChars_82 : decode cJ19_getChars 82 = .ok (.ineg, 1) := dk_116 (dk_at dksJ19_getChars_3 13 rfl rfl)
theorem dJ19_getChars_83 : decode cJ19_getChars 83 = .ok (.baload, 1) := dk_51 (dk_at dksJ19_getChars_3 14 rfl rfl)
theorem dJ19_getChars_84 : decode cJ19_getChars 84 = .ok (.bastore, 1) := dk_84 (dk_at dksJ19_getChars_3 15 rfl rfl)
theorem dJ19_getChars_85 : decode cJ19_getChars 85 = .ok (.iload_n 0, 1) := dk_26 (dk_at dksJ19_getChars_3 16 rfl rfl)
theorem dJ19_getChars_86 : decode cJ19_getChars 86 = .ok (.bipush (-9), 2) := dk_16 247 (dk_at dksJ19_getChars_3 17 rfl rfl)
theorem dJ19_getChars_88 : decode cJ19_getChars 88 = .ok (.if_icmp .ge 16, 3) := dk_162 0 16 (dk_at dksJ19_getChars_3 19 rfl rfl)
theorem dJ19_getChars_91 : decode cJ19_getChars 91 = .ok (.aload_n 2, 1) := dk_44 (dk_at dksJ19_getChars_3 22 rfl rfl)
theorem dJ19_getChars_92 : decode cJ19_getChars 92 = .ok (.iinc 5 (-1), 3) := dk_132 5 255 (dk_at dksJ19_getChars_4 0 rfl rfl)
theorem dJ19_getChars_95 : decode cJ19_getChars 95 = .ok (.iload 5, 2) := dk_21 5 (dk_at dksJ19_getChars_4 3 rfl rfl)
theorem dJ19_getChars_97 : decode cJ19_getChars 97 = .ok (.getstatic 87, 3) := dk_178 0 87 (dk_at dksJ19_getChars_4 5 rfl rfl)
theorem dJ19_getChars_100 : decode cJ19_getChars 100 = .ok (.iload_n 0, 1) := dk_26 (dk_at dksJ19_getChars_4 8 rfl rfl)
theorem dJ19_getChars_101 : decode cJ19_getChars 101 = .ok (.ineg, 1) := dk_116 (dk_at dksJ19_getChars_4 9 rfl rfl)
theorem dJ19_getChars_102 : decode cJ19_getChars 102 = .ok (.baload, 1) := dk_51 (dk_at dksJ19_getChars_4 10 rfl rfl)
theorem dJ19_getChars_103 : decode cJ19_getChars 103 = .ok (.bastore, 1) := dk_84 (dk_at dksJ19_getChars_4 11 rfl rfl)
theorem dJ19_getChars_104 : decode cJ19_getChars 104 = .ok (.iload 6, 2) := dk_21 6 (dk_at dksJ19_getChars_4 12 rfl rfl)
theorem dJ19_getChars_106 : decode cJ19_getChars 106 = .ok (.ifCond .eq 12, 3) := dk_153 0 12 (dk_at dksJ19_getChars_4 14 rfl rfl)
theorem dJ19_getChars_109 : decode cJ19_getChars 109 = .ok (.aload_n 2, 1) := dk_44 (dk_at dksJ19_getChars_4 17 rfl rfl)
theorem dJ19_getChars_110 : decode cJ19_getChars 110 = .ok (.iinc 5 (-1), 3) := dk_132 5 255 (dk_at dksJ19_getChars_4 18 rfl rfl)
theorem dJ19_getChars_113 : decode cJ19_getChars 113 = .ok (.iload 5, 2) := dk_21 5 (dk_at dksJ19_getChars_4 21 rfl rfl)
theorem dJ19_getChars_115 : decode cJ19_getChars 115 = .ok (.bipush 45, 2) := dk_16 45 (dk_at dksJ19_getChars_5 0 rfl rfl)
theorem dJ19_getChars_117 : decode cJ19_getChars 117 = .ok (.bastore, 1) := dk_84 (dk_at dksJ19_getChars_5 2 rfl rfl)
theorem dJ19_getChars_118 : decode cJ19_getChars 118 = .ok (.iload 5, 2) := dk_21 5 (dk_at dksJ19_getChars_5 3 rfl rfl)
theorem dJ19_getChars_120 : decode cJ19_getChars 120 = .ok (.ireturn, 1) := dk_172 (dk_at dksJ19_getChars_5 5 rfl rfl)
abbrev cJ19_hashCode : ByteArray := prog_61_method_32_code
def yJ19_hashCode : MethodName := ⟨RJ19, "hashCode", "()I"⟩
def dkwJ19_hashCode_0 : List UInt8 := [42, 180, 0, 205, 184, 0, 208, 172]
abbrev dktJ19_hashCode_0 : List UInt8 := dkwJ19_hashCode_0 ++ []
theorem dksJ19_hashCode_0 : cJ19_hashCode.data.toList.drop 0 = dktJ19_hashCode_0 := by decide +kernel
theorem dJ19_hashCode_0 : decode cJ19_hashCode 0 = .ok (.aload_n 0, 1) := dk_42 (dk_at dksJ19_hashCode_0 0 rfl rfl)
theorem dJ19_hashCode_1 : decode cJ19_hashCode 1 = .ok (.getfield 205, 3) := dk_180 0 205 (dk_at dksJ19_hashCode_0 1 rfl rfl)
theorem dJ19_hashCode_4 : decode cJ19_hashCode 4 = .ok (.invokestatic 208, 3) := dk_184 0 208 (dk_at dksJ19_hashCode_0 4 rfl rfl)
theorem dJ19_hashCode_7 : decode cJ19_hashCode 7 = .ok (.ireturn, 1) := dk_172 (dk_at dksJ19_hashCode_0 7 rfl rfl)
abbrev cJ19_hashCode_2 : ByteArray := prog_61_method_33_code
def yJ19_hashCode_2 : MethodName := ⟨RJ19, "hashCode", "(I)I"⟩
theorem dJ19_hashCode_2_0 : decode cJ19_hashCode_2 0 = .ok (.iload_n 0, 1) := by decide +kernel
theorem dJ19_hashCode_2_1 : decode cJ19_hashCode_2 1 = .ok (.ireturn, 1) := by decide +kernel
abbrev cJ19_equals : ByteArray := prog_61_method_34_code
def yJ19_equals : MethodName := ⟨RJ19, "equals", "(Ljava/lang/Object;)Z"⟩
def dkwJ19_equals_1 : List UInt8 := [167, 0, 4, 3, 172, 3, 172]
abbrev dktJ19_equals_1 : List UInt8 := dkwJ19_equals_1 ++ []
def dkwJ19_equals_0 : List UInt8 := [43, 193, 0, 1, 153, 0, 23, 42, 180, 0, 205, 43, 192, 0, 1, 182, 0, 211, 160, 0, 7, 4]
abbrev dktJ19_equals_0 : List UInt8 := dkwJ19_equals_0 ++ dktJ19_equals_1
theorem dksJ19_equals_0 : cJ19_equals.data.toList.drop 0 = dktJ19_equals_0 := by decide +kernel
theorem dksJ19_equals_1 : cJ19_equals.data.toList.drop 22 = dktJ19_equals_1 := dk_seg dksJ19_equals_0 22 rfl rfl
theorem dJ19_equals_0 : decode cJ19_equals 0 = .ok (.aload_n 1, 1) := dk_43 (dk_at dksJ19_equals_0 0 rfl rfl)
theorem dJ19_equals_1 : decode cJ19_equals 1 = .ok (.instanceof 1, 3) := dk_193 0 1 (dk_at dksJ19_equals_0 1 rfl rfl)
theorem dJ19_equals_4 : decode cJ19_equals 4 = .ok (.ifCond .eq 23, 3) := dk_153 0 23 (dk_at dksJ19_equals_0 4 rfl rfl)
theorem dJ19_equals_7 : decode cJ19_equals 7 = .ok (.aload_n 0, 1) := dk_42 (dk_at dksJ19_equals_0 7 rfl rfl)
theorem dJ19_equals_8 : decode cJ19_equals 8 = .ok (.getfield 205, 3) := dk_180 0 205 (dk_at dksJ19_equals_0 8 rfl rfl)
theorem dJ19_equals_11 : decode cJ19_equals 11 = .ok (.aload_n 1, 1) := dk_43 (dk_at dksJ19_equals_0 11 rfl rfl)
theorem dJ19_equals_12 : decode cJ19_equals 12 = .ok (.checkcast 1, 3) := dk_192 0 1 (dk_at dksJ19_equals_0 12 rfl rfl)
theorem dJ19_equals_15 : decode cJ19_equals 15 = .ok (.invokevirtual 211, 3) := dk_182 0 211 (dk_at dksJ19_equals_0 15 rfl rfl)
theorem dJ19_equals_18 : decode cJ19_equals 18 = .ok (.if_icmp .ne 7, 3) := dk_160 0 7 (dk_at dksJ19_equals_0 18 rfl rfl)
theorem dJ19_equals_21 : decode cJ19_equals 21 = .ok (.iconst 1, 1) := dk_4 (dk_at dksJ19_equals_0 21 rfl rfl)
theorem dJ19_equals_22 : decode cJ19_equals 22 = .ok (.goto 4, 3) := dk_167 0 4 (dk_at dksJ19_equals_1 0 rfl rfl)
theorem dJ19_equals_25 : decode cJ19_equals 25 = .ok (.iconst 0, 1) := dk_3 (dk_at dksJ19_equals_1 3 rfl rfl)
theorem dJ19_equals_26 : decode cJ19_equals 26 = .ok (.ireturn, 1) := dk_172 (dk_at dksJ19_equals_1 4 rfl rfl)
theorem dJ19_equals_27 : decode cJ19_equals 27 = .ok (.iconst 0, 1) := dk_3 (dk_at dksJ19_equals_1 5 rfl rfl)
theorem dJ19_equals_28 : decode cJ19_equals 28 = .ok (.ireturn, 1) := dk_172 (dk_at dksJ19_equals_1 6 rfl rfl)
abbrev cJ19_intValue : ByteArray := prog_61_method_27_code
def yJ19_intValue : MethodName := ⟨RJ19, "intValue", "()I"⟩
theorem dJ19_intValue_0 : decode cJ19_intValue 0 = .ok (.aload_n 0, 1) := by decide +kernel
theorem dJ19_intValue_1 : decode cJ19_intValue 1 = .ok (.getfield 205, 3) := by decide +kernel
theorem dJ19_intValue_4 : decode cJ19_intValue 4 = .ok (.ireturn, 1) := by decide +kernel
abbrev cJ19_compareTo : ByteArray := prog_61_method_63_code
def yJ19_compareTo : MethodName := ⟨RJ19, "compareTo", "(Ljava/lang/Object;)I"⟩
def dkwJ19_compareTo_0 : List UInt8 := [42, 43, 192, 0, 1, 182, 1, 28, 172]
abbrev dktJ19_compareTo_0 : List UInt8 := dkwJ19_compareTo_0 ++ []
theorem dksJ19_compareTo_0 : cJ19_compareTo.data.toList.drop 0 = dktJ19_compareTo_0 := by decide +kernel
theorem dJ19_compareTo_0 : decode cJ19_compareTo 0 = .ok (.aload_n 0, 1) := dk_42 (dk_at dksJ19_compareTo_0 0 rfl rfl)
theorem dJ19_compareTo_1 : decode cJ19_compareTo 1 = .ok (.aload_n 1, 1) := dk_43 (dk_at dksJ19_compareTo_0 1 rfl rfl)
theorem dJ19_compareTo_2 : decode cJ19_compareTo 2 = .ok (.checkcast 1, 3) := dk_192 0 1 (dk_at dksJ19_compareTo_0 2 rfl rfl)
theorem dJ19_compareTo_5 : decode cJ19_compareTo 5 = .ok (.invokevirtual 284, 3) := dk_182 1 28 (dk_at dksJ19_compareTo_0 5 rfl rfl)
theorem dJ19_compareTo_8 : decode cJ19_compareTo 8 = .ok (.ireturn, 1) := dk_172 (dk_at dksJ19_compareTo_0 8 rfl rfl)
abbrev cJ19_compareTo_2 : ByteArray := prog_61_method_39_code
def yJ19_compareTo_2 : MethodName := ⟨RJ19, "compareTo", "(Ljava/lang/Integer;)I"⟩
def dkwJ19_compareTo_2_0 : List UInt8 := [42, 180, 0, 205, 43, 180, 0, 205, 184, 1, 3, 172]
abbrev dktJ19_compareTo_2_0 : List UInt8 := dkwJ19_compareTo_2_0 ++ []
theorem dksJ19_compareTo_2_0 : cJ19_compareTo_2.data.toList.drop 0 = dktJ19_compareTo_2_0 := by decide +kernel
theorem dJ19_compareTo_2_0 : decode cJ19_compareTo_2 0 = .ok (.aload_n 0, 1) := dk_42 (dk_at dksJ19_compareTo_2_0 0 rfl rfl)
theorem dJ19_compareTo_2_1 : decode cJ19_compareTo_2 1 = .ok (.getfield 205, 3) := dk_180 0 205 (dk_at dksJ19_compareTo_2_0 1 rfl rfl)
theorem dJ19_compareTo_2_4 : decode cJ19_compareTo_2 4 = .ok (.aload_n 1, 1) := dk_43 (dk_at dksJ19_compareTo_2_0 4 rfl rfl)
theorem dJ19_compareTo_2_5 : decode cJ19_compareTo_2 5 = .ok (.getfield 205, 3) := dk_180 0 205 (dk_at dksJ19_compareTo_2_0 5 rfl rfl)
theorem dJ19_compareTo_2_8 : decode cJ19_compareTo_2 8 = .ok (.invokestatic 259, 3) := dk_184 1 3 (dk_at dksJ19_compareTo_2_0 8 rfl rfl)
theorem dJ19_compareTo_2_11 : decode cJ19_compareTo_2 11 = .ok (.ireturn, 1) := dk_172 (dk_at dksJ19_compareTo_2_0 11 rfl rfl)
abbrev cJ19_compare : ByteArray := prog_61_method_40_code
def yJ19_compare : MethodName := ⟨RJ19, "compare", "(II)I"⟩
def dkwJ19_compare_0 : List UInt8 := [26, 27, 162, 0, 7, 2, 167, 0, 13, 26, 27, 160, 0, 7, 3, 167, 0, 4, 4, 172]
abbrev dktJ19_compare_0 : List UInt8 := dkwJ19_compare_0 ++ []
theorem dksJ19_compare_0 : cJ19_compare.data.toList.drop 0 = dktJ19_compare_0 := by decide +kernel
theorem dJ19_compare_0 : decode cJ19_compare 0 = .ok (.iload_n 0, 1) := dk_26 (dk_at dksJ19_compare_0 0 rfl rfl)
theorem dJ19_compare_1 : decode cJ19_compare 1 = .ok (.iload_n 1, 1) := dk_27 (dk_at dksJ19_compare_0 1 rfl rfl)
theorem dJ19_compare_2 : decode cJ19_compare 2 = .ok (.if_icmp .ge 7, 3) := dk_162 0 7 (dk_at dksJ19_compare_0 2 rfl rfl)
theorem dJ19_compare_5 : decode cJ19_compare 5 = .ok (.iconst (-1), 1) := dk_2 (dk_at dksJ19_compare_0 5 rfl rfl)
theorem dJ19_compare_6 : decode cJ19_compare 6 = .ok (.goto 13, 3) := dk_167 0 13 (dk_at dksJ19_compare_0 6 rfl rfl)
theorem dJ19_compare_9 : decode cJ19_compare 9 = .ok (.iload_n 0, 1) := dk_26 (dk_at dksJ19_compare_0 9 rfl rfl)
theorem dJ19_compare_10 : decode cJ19_compare 10 = .ok (.iload_n 1, 1) := dk_27 (dk_at dksJ19_compare_0 10 rfl rfl)
theorem dJ19_compare_11 : decode cJ19_compare 11 = .ok (.if_icmp .ne 7, 3) := dk_160 0 7 (dk_at dksJ19_compare_0 11 rfl rfl)
theorem dJ19_compare_14 : decode cJ19_compare 14 = .ok (.iconst 0, 1) := dk_3 (dk_at dksJ19_compare_0 14 rfl rfl)
theorem dJ19_compare_15 : decode cJ19_compare 15 = .ok (.goto 4, 3) := dk_167 0 4 (dk_at dksJ19_compare_0 15 rfl rfl)
theorem dJ19_compare_18 : decode cJ19_compare 18 = .ok (.iconst 1, 1) := dk_4 (dk_at dksJ19_compare_0 18 rfl rfl)
theorem dJ19_compare_19 : decode cJ19_compare 19 = .ok (.ireturn, 1) := dk_172 (dk_at dksJ19_compare_0 19 rfl rfl)
abbrev cJ19_numberOfLeadingZeros : ByteArray := prog_61_method_47_code
def yJ19_numberOfLeadingZeros : MethodName := ⟨RJ19, "numberOfLeadingZeros", "(I)I"⟩
def dkwJ19_numberOfLeadingZeros_3 : List UInt8 := [5, 124, 59, 27, 26, 4, 124, 100, 172]
abbrev dktJ19_numberOfLeadingZeros_3 : List UInt8 := dkwJ19_numberOfLeadingZeros_3 ++ []
def dkwJ19_numberOfLeadingZeros_2 : List UInt8 := [124, 59, 26, 16, 16, 161, 0, 10, 132, 1, 252, 26, 7, 124, 59, 26, 7, 161, 0, 10, 132, 1, 254, 26]
abbrev dktJ19_numberOfLeadingZeros_2 : List UInt8 := dkwJ19_numberOfLeadingZeros_2 ++ dktJ19_numberOfLeadingZeros_3
def dkwJ19_numberOfLeadingZeros_1 : List UInt8 := [161, 0, 11, 132, 1, 240, 26, 16, 16, 124, 59, 26, 17, 1, 0, 161, 0, 11, 132, 1, 248, 26, 16, 8]
abbrev dktJ19_numberOfLeadingZeros_1 : List UInt8 := dkwJ19_numberOfLeadingZeros_1 ++ dktJ19_numberOfLeadingZeros_2
def dkwJ19_numberOfLeadingZeros_0 : List UInt8 := [26, 157, 0, 14, 26, 154, 0, 8, 16, 32, 167, 0, 4, 3, 172, 16, 31, 60, 26, 19, 1, 8]
abbrev dktJ19_numberOfLeadingZeros_0 : List UInt8 := dkwJ19_numberOfLeadingZeros_0 ++ dktJ19_numberOfLeadingZeros_1
theorem dksJ19_numberOfLeadingZeros_0 : cJ19_numberOfLeadingZeros.data.toList.drop 0 = dktJ19_numberOfLeadingZeros_0 := by decide +kernel
theorem dksJ19_numberOfLeadingZeros_1 : cJ19_numberOfLeadingZeros.data.toList.drop 22 = dktJ19_numberOfLeadingZeros_1 := dk_seg dksJ19_numberOfLeadingZeros_0 22 rfl rfl
theorem dksJ19_numberOfLeadingZeros_2 : cJ19_numberOfLeadingZeros.data.toList.drop 46 = dktJ19_numberOfLeadingZeros_2 := dk_seg dksJ19_numberOfLeadingZeros_1 24 rfl rfl
theorem dksJ19_numberOfLeadingZeros_3 : cJ19_numberOfLeadingZeros.data.toList.drop 70 = dktJ19_numberOfLeadingZeros_3 := dk_seg dksJ19_numberOfLeadingZeros_2 24 rfl rfl
theorem dJ19_numberOfLeadingZeros_0 : decode cJ19_numberOfLeadingZeros 0 = .ok (.iload_n 0, 1) := dk_26 (dk_at dksJ19_numberOfLeadingZeros_0 0 rfl rfl)
theorem dJ19_numberOfLeadingZeros_1 : decode cJ19_numberOfLeadingZeros 1 = .ok (.ifCond .gt 14, 3) := dk_157 0 14 (dk_at dksJ19_numberOfLeadingZeros_0 1 rfl rfl)
theorem dJ19_numberOfLeadingZeros_4 : decode cJ19_numberOfLeadingZeros 4 = .ok (.iload_n 0, 1) := dk_26 (dk_at dksJ19_numberOfLeadingZeros_0 4 rfl rfl)
theorem dJ19_numberOfLeadingZeros_5 : decode cJ19_numberOfLeadingZeros 5 = .ok (.ifCond .ne 8, 3) := dk_154 0 8 (dk_at dksJ19_numberOfLeadingZeros_0 5 rfl rfl)
theorem dJ19_numberOfLeadingZeros_8 : decode cJ19_numberOfLeadingZeros 8 = .ok (.bipush 32, 2) := dk_16 32 (dk_at dksJ19_numberOfLeadingZeros_0 8 rfl rfl)
theorem dJ19_numberOfLeadingZeros_10 : decode cJ19_numberOfLeadingZeros 10 = .ok (.goto 4, 3) := dk_167 0 4 (dk_at dksJ19_numberOfLeadingZeros_0 10 rfl rfl)
theorem dJ19_numberOfLeadingZeros_13 : decode cJ19_numberOfLeadingZeros 13 = .ok (.iconst 0, 1) := dk_3 (dk_at dksJ19_numberOfLeadingZeros_0 13 rfl rfl)
theorem dJ19_numberOfLeadingZeros_14 : decode cJ19_numberOfLeadingZeros 14 = .ok (.ireturn, 1) := dk_172 (dk_at dksJ19_numberOfLeadingZeros_0 14 rfl rfl)
theorem dJ19_numberOfLeadingZeros_15 : decode cJ19_numberOfLeadingZeros 15 = .ok (.bipush 31, 2) := dk_16 31 (dk_at dksJ19_numberOfLeadingZeros_0 15 rfl rfl)
theorem dJ19_numberOfLeadingZeros_17 : decode cJ19_numberOfLeadingZeros 17 = .ok (.istore_n 1, 1) := dk_60 (dk_at dksJ19_numberOfLeadingZeros_0 17 rfl rfl)
theorem dJ19_numberOfLeadingZeros_18 : decode cJ19_numberOfLeadingZeros 18 = .ok (.iload_n 0, 1) := dk_26 (dk_at dksJ19_numberOfLeadingZeros_0 18 rfl rfl)
theorem dJ19_numberOfLeadingZeros_19 : decode cJ19_numberOfLeadingZeros 19 = .ok (.ldc_w 264, 3) := dk_19 1 8 (dk_at dksJ19_numberOfLeadingZeros_0 19 rfl rfl)
theorem dJ19_numberOfLeadingZeros_22 : decode cJ19_numberOfLeadingZeros 22 = .ok (.if_icmp .lt 11, 3) := dk_161 0 11 (dk_at dksJ19_numberOfLeadingZeros_1 0 rfl rfl)
theorem dJ19_numberOfLeadingZeros_25 : decode cJ19_numberOfLeadingZeros 25 = .ok (.iinc 1 (-16), 3) := dk_132 1 240 (dk_at dksJ19_numberOfLeadingZeros_1 3 rfl rfl)
theorem dJ19_numberOfLeadingZeros_28 : decode cJ19_numberOfLeadingZeros 28 = .ok (.iload_n 0, 1) := dk_26 (dk_at dksJ19_numberOfLeadingZeros_1 6 rfl rfl)
theorem dJ19_numberOfLeadingZeros_29 : decode cJ19_numberOfLeadingZeros 29 = .ok (.bipush 16, 2) := dk_16 16 (dk_at dksJ19_numberOfLeadingZeros_1 7 rfl rfl)
theorem dJ19_numberOfLeadingZeros_31 : decode cJ19_numberOfLeadingZeros 31 = .ok (.iushr, 1) := dk_124 (dk_at dksJ19_numberOfLeadingZeros_1 9 rfl rfl)
theorem dJ19_numberOfLeadingZeros_32 : decode cJ19_numberOfLeadingZeros 32 = .ok (.istore_n 0, 1) := dk_59 (dk_at dksJ19_numberOfLeadingZeros_1 10 rfl rfl)
theorem dJ19_numberOfLeadingZeros_33 : decode cJ19_numberOfLeadingZeros 33 = .ok (.iload_n 0, 1) := dk_26 (dk_at dksJ19_numberOfLeadingZeros_1 11 rfl rfl)
theorem dJ19_numberOfLeadingZeros_34 : decode cJ19_numberOfLeadingZeros 34 = .ok (.sipush 256, 3) := dk_17 1 0 (dk_at dksJ19_numberOfLeadingZeros_1 12 rfl rfl)
theorem dJ19_numberOfLeadingZeros_37 : decode cJ19_numberOfLeadingZeros 37 = .ok (.if_icmp .lt 11, 3) := dk_161 0 11 (dk_at dksJ19_numberOfLeadingZeros_1 15 rfl rfl)
theorem dJ19_numberOfLeadingZeros_40 : decode cJ19_numberOfLeadingZeros 40 = .ok (.iinc 1 (-8), 3) := dk_132 1 248 (dk_at dksJ19_numberOfLeadingZeros_1 18 rfl rfl)
theorem dJ19_numberOfLeadingZeros_43 : decode cJ19_numberOfLeadingZeros 43 = .ok (.iload_n 0, 1) := dk_26 (dk_at dksJ19_numberOfLeadingZeros_1 21 rfl rfl)
theorem dJ19_numberOfLeadingZeros_44 : decode cJ19_numberOfLeadingZeros 44 = .ok (.bipush 8, 2) := dk_16 8 (dk_at dksJ19_numberOfLeadingZeros_1 22 rfl rfl)
theorem dJ19_numberOfLeadingZeros_46 : decode cJ19_numberOfLeadingZeros 46 = .ok (.iushr, 1) := dk_124 (dk_at dksJ19_numberOfLeadingZeros_2 0 rfl rfl)
theorem dJ19_numberOfLeadingZeros_47 : decode cJ19_numberOfLeadingZeros 47 = .ok (.istore_n 0, 1) := dk_59 (dk_at dksJ19_numberOfLeadingZeros_2 1 rfl rfl)
theorem dJ19_numberOfLeadingZeros_48 : decode cJ19_numberOfLeadingZeros 48 = .ok (.iload_n 0, 1) := dk_26 (dk_at dksJ19_numberOfLeadingZeros_2 2 rfl rfl)
theorem dJ19_numberOfLeadingZeros_49 : decode cJ19_numberOfLeadingZeros 49 = .ok (.bipush 16, 2) := dk_16 16 (dk_at dksJ19_numberOfLeadingZeros_2 3 rfl rfl)
theorem dJ19_numberOfLeadingZeros_51 : decode cJ19_numberOfLeadingZeros 51 = .ok (.if_icmp .lt 10, 3) := dk_161 0 10 (dk_at dksJ19_numberOfLeadingZeros_2 5 rfl rfl)
theorem dJ19_numberOfLeadingZeros_54 : decode cJ19_numberOfLeadingZeros 54 = .ok (.iinc 1 (-4), 3) := dk_132 1 252 (dk_at dksJ19_numberOfLeadingZeros_2 8 rfl rfl)
theorem dJ19_numberOfLeadingZeros_57 : decode cJ19_numberOfLeadingZeros 57 = .ok (.iload_n 0, 1) := dk_26 (dk_at dksJ19_numberOfLeadingZeros_2 11 rfl rfl)
theorem dJ19_numberOfLeadingZeros_58 : decode cJ19_numberOfLeadingZeros 58 = .ok (.iconst 4, 1) := dk_7 (dk_at dksJ19_numberOfLeadingZeros_2 12 rfl rfl)
theorem dJ19_numberOfLeadingZeros_59 : decode cJ19_numberOfLeadingZeros 59 = .ok (.iushr, 1) := dk_124 (dk_at dksJ19_numberOfLeadingZeros_2 13 rfl rfl)
theorem dJ19_numberOfLeadingZeros_60 : decode cJ19_numberOfLeadingZeros 60 = .ok (.istore_n 0, 1) := dk_59 (dk_at dksJ19_numberOfLeadingZeros_2 14 rfl rfl)
theorem dJ19_numberOfLeadingZeros_61 : decode cJ19_numberOfLeadingZeros 61 = .ok (.iload_n 0, 1) := dk_26 (dk_at dksJ19_numberOfLeadingZeros_2 15 rfl rfl)
theorem dJ19_numberOfLeadingZeros_62 : decode cJ19_numberOfLeadingZeros 62 = .ok (.iconst 4, 1) := dk_7 (dk_at dksJ19_numberOfLeadingZeros_2 16 rfl rfl)
theorem dJ19_numberOfLeadingZeros_63 : decode cJ19_numberOfLeadingZeros 63 = .ok (.if_icmp .lt 10, 3) := dk_161 0 10 (dk_at dksJ19_numberOfLeadingZeros_2 17 rfl rfl)
theorem dJ19_numberOfLeadingZeros_66 : decode cJ19_numberOfLeadingZeros 66 = .ok (.iinc 1 (-2), 3) := dk_132 1 254 (dk_at dksJ19_numberOfLeadingZeros_2 20 rfl rfl)
theorem dJ19_numberOfLeadingZeros_69 : decode cJ19_numberOfLeadingZeros 69 = .ok (.iload_n 0, 1) := dk_26 (dk_at dksJ19_numberOfLeadingZeros_2 23 rfl rfl)
theorem dJ19_numberOfLeadingZeros_70 : decode cJ19_numberOfLeadingZeros 70 = .ok (.iconst 2, 1) := dk_5 (dk_at dksJ19_numberOfLeadingZeros_3 0 rfl rfl)
theorem dJ19_numberOfLeadingZeros_71 : decode cJ19_numberOfLeadingZeros 71 = .ok (.iushr, 1) := dk_124 (dk_at dksJ19_numberOfLeadingZeros_3 1 rfl rfl)
theorem dJ19_numberOfLeadingZeros_72 : decode cJ19_numberOfLeadingZeros 72 = .ok (.istore_n 0, 1) := dk_59 (dk_at dksJ19_numberOfLeadingZeros_3 2 rfl rfl)
theorem dJ19_numberOfLeadingZeros_73 : decode cJ19_numberOfLeadingZeros 73 = .ok (.iload_n 1, 1) := dk_27 (dk_at dksJ19_numberOfLeadingZeros_3 3 rfl rfl)
theorem dJ19_numberOfLeadingZeros_74 : decode cJ19_numberOfLeadingZeros 74 = .ok (.iload_n 0, 1) := dk_26 (dk_at dksJ19_numberOfLeadingZeros_3 4 rfl rfl)
theorem dJ19_numberOfLeadingZeros_75 : decode cJ19_numberOfLeadingZeros 75 = .ok (.iconst 1, 1) := dk_4 (dk_at dksJ19_numberOfLeadingZeros_3 5 rfl rfl)
theorem dJ19_numberOfLeadingZeros_76 : decode cJ19_numberOfLeadingZeros 76 = .ok (.iushr, 1) := dk_124 (dk_at dksJ19_numberOfLeadingZeros_3 6 rfl rfl)
theorem dJ19_numberOfLeadingZeros_77 : decode cJ19_numberOfLeadingZeros 77 = .ok (.isub, 1) := dk_100 (dk_at dksJ19_numberOfLeadingZeros_3 7 rfl rfl)
theorem dJ19_numberOfLeadingZeros_78 : decode cJ19_numberOfLeadingZeros 78 = .ok (.ireturn, 1) := dk_172 (dk_at dksJ19_numberOfLeadingZeros_3 8 rfl rfl)
abbrev cJ19_numberOfTrailingZeros : ByteArray := prog_61_method_48_code
def yJ19_numberOfTrailingZeros : MethodName := ⟨RJ19, "numberOfTrailingZeros", "(I)I"⟩
def dkwJ19_numberOfTrailingZeros_3 : List UInt8 := [5, 124, 59, 27, 26, 4, 124, 96, 172]
abbrev dktJ19_numberOfTrailingZeros_3 : List UInt8 := dkwJ19_numberOfTrailingZeros_3 ++ []
def dkwJ19_numberOfTrailingZeros_2 : List UInt8 := [124, 59, 26, 16, 16, 164, 0, 10, 132, 1, 4, 26, 7, 124, 59, 26, 7, 164, 0, 10, 132, 1, 2, 26]
abbrev dktJ19_numberOfTrailingZeros_2 : List UInt8 := dkwJ19_numberOfTrailingZeros_2 ++ dktJ19_numberOfTrailingZeros_3
def dkwJ19_numberOfTrailingZeros_1 : List UInt8 := [164, 0, 11, 132, 1, 16, 26, 16, 16, 124, 59, 26, 17, 1, 0, 164, 0, 11, 132, 1, 8, 26, 16, 8]
abbrev dktJ19_numberOfTrailingZeros_1 : List UInt8 := dkwJ19_numberOfTrailingZeros_1 ++ dktJ19_numberOfTrailingZeros_2
def dkwJ19_numberOfTrailingZeros_0 : List UInt8 := [26, 2, 130, 26, 4, 100, 126, 59, 26, 157, 0, 8, 26, 16, 32, 126, 172, 4, 60, 26, 19, 1, 8]
abbrev dktJ19_numberOfTrailingZeros_0 : List UInt8 := dkwJ19_numberOfTrailingZeros_0 ++ dktJ19_numberOfTrailingZeros_1
theorem dksJ19_numberOfTrailingZeros_0 : cJ19_numberOfTrailingZeros.data.toList.drop 0 = dktJ19_numberOfTrailingZeros_0 := by decide +kernel
theorem dksJ19_numberOfTrailingZeros_1 : cJ19_numberOfTrailingZeros.data.toList.drop 23 = dktJ19_numberOfTrailingZeros_1 := dk_seg dksJ19_numberOfTrailingZeros_0 23 rfl rfl
theorem dksJ19_numberOfTrailingZeros_2 : cJ19_numberOfTrailingZeros.data.toList.drop 47 = dktJ19_numberOfTrailingZeros_2 := dk_seg dksJ19_numberOfTrailingZeros_1 24 rfl rfl
theorem dksJ19_numberOfTrailingZeros_3 : cJ19_numberOfTrailingZeros.data.toList.drop 71 = dktJ19_numberOfTrailingZeros_3 := dk_seg dksJ19_numberOfTrailingZeros_2 24 rfl rfl
theorem dJ19_numberOfTrailingZeros_0 : decode cJ19_numberOfTrailingZeros 0 = .ok (.iload_n 0, 1) := dk_26 (dk_at dksJ19_numberOfTrailingZeros_0 0 rfl rfl)
theorem dJ19_numberOfTrailingZeros_1 : decode cJ19_numberOfTrailingZeros 1 = .ok (.iconst (-1), 1) := dk_2 (dk_at dksJ19_numberOfTrailingZeros_0 1 rfl rfl)
theorem dJ19_numberOfTrailingZeros_2 : decode cJ19_numberOfTrailingZeros 2 = .ok (.ixor, 1) := dk_130 (dk_at dksJ19_numberOfTrailingZeros_0 2 rfl rfl)
theorem dJ19_numberOfTrailingZeros_3 : decode cJ19_numberOfTrailingZeros 3 = .ok (.iload_n 0, 1) := dk_26 (dk_at dksJ19_numberOfTrailingZeros_0 3 rfl rfl)
theorem dJ19_numberOfTrailingZeros_4 : decode cJ19_numberOfTrailingZeros 4 = .ok (.iconst 1, 1) := dk_4 (dk_at dksJ19_numberOfTrailingZeros_0 4 rfl rfl)
theorem dJ19_numberOfTrailingZeros_5 : decode cJ19_numberOfTrailingZeros 5 = .ok (.isub, 1) := dk_100 (dk_at dksJ19_numberOfTrailingZeros_0 5 rfl rfl)
theorem dJ19_numberOfTrailingZeros_6 : decode cJ19_numberOfTrailingZeros 6 = .ok (.iand, 1) := dk_126 (dk_at dksJ19_numberOfTrailingZeros_0 6 rfl rfl)
theorem dJ19_numberOfTrailingZeros_7 : decode cJ19_numberOfTrailingZeros 7 = .ok (.istore_n 0, 1) := dk_59 (dk_at dksJ19_numberOfTrailingZeros_0 7 rfl rfl)
theorem dJ19_numberOfTrailingZeros_8 : decode cJ19_numberOfTrailingZeros 8 = .ok (.iload_n 0, 1) := dk_26 (dk_at dksJ19_numberOfTrailingZeros_0 8 rfl rfl)
theorem dJ19_numberOfTrailingZeros_9 : decode cJ19_numberOfTrailingZeros 9 = .ok (.ifCond .gt 8, 3) := dk_157 0 8 (dk_at dksJ19_numberOfTrailingZeros_0 9 rfl rfl)
theorem dJ19_numberOfTrailingZeros_12 : decode cJ19_numberOfTrailingZeros 12 = .ok (.iload_n 0, 1) := dk_26 (dk_at dksJ19_numberOfTrailingZeros_0 12 rfl rfl)
theorem dJ19_numberOfTrailingZeros_13 : decode cJ19_numberOfTrailingZeros 13 = .ok (.bipush 32, 2) := dk_16 32 (dk_at dksJ19_numberOfTrailingZeros_0 13 rfl rfl)
theorem dJ19_numberOfTrailingZeros_15 : decode cJ19_numberOfTrailingZeros 15 = .ok (.iand, 1) := dk_126 (dk_at dksJ19_numberOfTrailingZeros_0 15 rfl rfl)
theorem dJ19_numberOfTrailingZeros_16 : decode cJ19_numberOfTrailingZeros 16 = .ok (.ireturn, 1) := dk_172 (dk_at dksJ19_numberOfTrailingZeros_0 16 rfl rfl)
theorem dJ19_numberOfTrailingZeros_17 : decode cJ19_numberOfTrailingZeros 17 = .ok (.iconst 1, 1) := dk_4 (dk_at dksJ19_numberOfTrailingZeros_0 17 rfl rfl)
theorem dJ19_numberOfTrailingZeros_18 : decode cJ19_numberOfTrailingZeros 18 = .ok (.istore_n 1, 1) := dk_60 (dk_at dksJ19_numberOfTrailingZeros_0 18 rfl rfl)
theorem dJ19_numberOfTrailingZeros_19 : decode cJ19_numberOfTrailingZeros 19 = .ok (.iload_n 0, 1) := dk_26 (dk_at dksJ19_numberOfTrailingZeros_0 19 rfl rfl)
theorem dJ19_numberOfTrailingZeros_20 : decode cJ19_numberOfTrailingZeros 20 = .ok (.ldc_w 264, 3) := dk_19 1 8 (dk_at dksJ19_numberOfTrailingZeros_0 20 rfl rfl)
theorem dJ19_numberOfTrailingZeros_23 : decode cJ19_numberOfTrailingZeros 23 = .ok (.if_icmp .le 11, 3) := dk_164 0 11 (dk_at dksJ19_numberOfTrailingZeros_1 0 rfl rfl)
theorem dJ19_numberOfTrailingZeros_26 : decode cJ19_numberOfTrailingZeros 26 = .ok (.iinc 1 16, 3) := dk_132 1 16 (dk_at dksJ19_numberOfTrailingZeros_1 3 rfl rfl)
theorem dJ19_numberOfTrailingZeros_29 : decode cJ19_numberOfTrailingZeros 29 = .ok (.iload_n 0, 1) := dk_26 (dk_at dksJ19_numberOfTrailingZeros_1 6 rfl rfl)
theorem dJ19_numberOfTrailingZeros_30 : decode cJ19_numberOfTrailingZeros 30 = .ok (.bipush 16, 2) := dk_16 16 (dk_at dksJ19_numberOfTrailingZeros_1 7 rfl rfl)
theorem dJ19_numberOfTrailingZeros_32 : decode cJ19_numberOfTrailingZeros 32 = .ok (.iushr, 1) := dk_124 (dk_at dksJ19_numberOfTrailingZeros_1 9 rfl rfl)
theorem dJ19_numberOfTrailingZeros_33 : decode cJ19_numberOfTrailingZeros 33 = .ok (.istore_n 0, 1) := dk_59 (dk_at dksJ19_numberOfTrailingZeros_1 10 rfl rfl)
theorem dJ19_numberOfTrailingZeros_34 : decode cJ19_numberOfTrailingZeros 34 = .ok (.iload_n 0, 1) := dk_26 (dk_at dksJ19_numberOfTrailingZeros_1 11 rfl rfl)
theorem dJ19_numberOfTrailingZeros_35 : decode cJ19_numberOfTrailingZeros 35 = .ok (.sipush 256, 3) := dk_17 1 0 (dk_at dksJ19_numberOfTrailingZeros_1 12 rfl rfl)
theorem dJ19_numberOfTrailingZeros_38 : decode cJ19_numberOfTrailingZeros 38 = .ok (.if_icmp .le 11, 3) := dk_164 0 11 (dk_at dksJ19_numberOfTrailingZeros_1 15 rfl rfl)
theorem dJ19_numberOfTrailingZeros_41 : decode cJ19_numberOfTrailingZeros 41 = .ok (.iinc 1 8, 3) := dk_132 1 8 (dk_at dksJ19_numberOfTrailingZeros_1 18 rfl rfl)
theorem dJ19_numberOfTrailingZeros_44 : decode cJ19_numberOfTrailingZeros 44 = .ok (.iload_n 0, 1) := dk_26 (dk_at dksJ19_numberOfTrailingZeros_1 21 rfl rfl)
theorem dJ19_numberOfTrailingZeros_45 : decode cJ19_numberOfTrailingZeros 45 = .ok (.bipush 8, 2) := dk_16 8 (dk_at dksJ19_numberOfTrailingZeros_1 22 rfl rfl)
theorem dJ19_numberOfTrailingZeros_47 : decode cJ19_numberOfTrailingZeros 47 = .ok (.iushr, 1) := dk_124 (dk_at dksJ19_numberOfTrailingZeros_2 0 rfl rfl)
theorem dJ19_numberOfTrailingZeros_48 : decode cJ19_numberOfTrailingZeros 48 = .ok (.istore_n 0, 1) := dk_59 (dk_at dksJ19_numberOfTrailingZeros_2 1 rfl rfl)
theorem dJ19_numberOfTrailingZeros_49 : decode cJ19_numberOfTrailingZeros 49 = .ok (.iload_n 0, 1) := dk_26 (dk_at dksJ19_numberOfTrailingZeros_2 2 rfl rfl)
theorem dJ19_numberOfTrailingZeros_50 : decode cJ19_numberOfTrailingZeros 50 = .ok (.bipush 16, 2) := dk_16 16 (dk_at dksJ19_numberOfTrailingZeros_2 3 rfl rfl)
theorem dJ19_numberOfTrailingZeros_52 : decode cJ19_numberOfTrailingZeros 52 = .ok (.if_icmp .le 10, 3) := dk_164 0 10 (dk_at dksJ19_numberOfTrailingZeros_2 5 rfl rfl)
theorem dJ19_numberOfTrailingZeros_55 : decode cJ19_numberOfTrailingZeros 55 = .ok (.iinc 1 4, 3) := dk_132 1 4 (dk_at dksJ19_numberOfTrailingZeros_2 8 rfl rfl)
theorem dJ19_numberOfTrailingZeros_58 : decode cJ19_numberOfTrailingZeros 58 = .ok (.iload_n 0, 1) := dk_26 (dk_at dksJ19_numberOfTrailingZeros_2 11 rfl rfl)
theorem dJ19_numberOfTrailingZeros_59 : decode cJ19_numberOfTrailingZeros 59 = .ok (.iconst 4, 1) := dk_7 (dk_at dksJ19_numberOfTrailingZeros_2 12 rfl rfl)
theorem dJ19_numberOfTrailingZeros_60 : decode cJ19_numberOfTrailingZeros 60 = .ok (.iushr, 1) := dk_124 (dk_at dksJ19_numberOfTrailingZeros_2 13 rfl rfl)
theorem dJ19_numberOfTrailingZeros_61 : decode cJ19_numberOfTrailingZeros 61 = .ok (.istore_n 0, 1) := dk_59 (dk_at dksJ19_numberOfTrailingZeros_2 14 rfl rfl)
theorem dJ19_numberOfTrailingZeros_62 : decode cJ19_numberOfTrailingZeros 62 = .ok (.iload_n 0, 1) := dk_26 (dk_at dksJ19_numberOfTrailingZeros_2 15 rfl rfl)
theorem dJ19_numberOfTrailingZeros_63 : decode cJ19_numberOfTrailingZeros 63 = .ok (.iconst 4, 1) := dk_7 (dk_at dksJ19_numberOfTrailingZeros_2 16 rfl rfl)
theorem dJ19_numberOfTrailingZeros_64 : decode cJ19_numberOfTrailingZeros 64 = .ok (.if_icmp .le 10, 3) := dk_164 0 10 (dk_at dksJ19_numberOfTrailingZeros_2 17 rfl rfl)
theorem dJ19_numberOfTrailingZeros_67 : decode cJ19_numberOfTrailingZeros 67 = .ok (.iinc 1 2, 3) := dk_132 1 2 (dk_at dksJ19_numberOfTrailingZeros_2 20 rfl rfl)
theorem dJ19_numberOfTrailingZeros_70 : decode cJ19_numberOfTrailingZeros 70 = .ok (.iload_n 0, 1) := dk_26 (dk_at dksJ19_numberOfTrailingZeros_2 23 rfl rfl)
theorem dJ19_numberOfTrailingZeros_71 : decode cJ19_numberOfTrailingZeros 71 = .ok (.iconst 2, 1) := dk_5 (dk_at dksJ19_numberOfTrailingZeros_3 0 rfl rfl)
theorem dJ19_numberOfTrailingZeros_72 : decode cJ19_numberOfTrailingZeros 72 = .ok (.iushr, 1) := dk_124 (dk_at dksJ19_numberOfTrailingZeros_3 1 rfl rfl)
theorem dJ19_numberOfTrailingZeros_73 : decode cJ19_numberOfTrailingZeros 73 = .ok (.istore_n 0, 1) := dk_59 (dk_at dksJ19_numberOfTrailingZeros_3 2 rfl rfl)
theorem dJ19_numberOfTrailingZeros_74 : decode cJ19_numberOfTrailingZeros 74 = .ok (.iload_n 1, 1) := dk_27 (dk_at dksJ19_numberOfTrailingZeros_3 3 rfl rfl)
theorem dJ19_numberOfTrailingZeros_75 : decode cJ19_numberOfTrailingZeros 75 = .ok (.iload_n 0, 1) := dk_26 (dk_at dksJ19_numberOfTrailingZeros_3 4 rfl rfl)
theorem dJ19_numberOfTrailingZeros_76 : decode cJ19_numberOfTrailingZeros 76 = .ok (.iconst 1, 1) := dk_4 (dk_at dksJ19_numberOfTrailingZeros_3 5 rfl rfl)
theorem dJ19_numberOfTrailingZeros_77 : decode cJ19_numberOfTrailingZeros 77 = .ok (.iushr, 1) := dk_124 (dk_at dksJ19_numberOfTrailingZeros_3 6 rfl rfl)
theorem dJ19_numberOfTrailingZeros_78 : decode cJ19_numberOfTrailingZeros 78 = .ok (.iadd, 1) := dk_96 (dk_at dksJ19_numberOfTrailingZeros_3 7 rfl rfl)
theorem dJ19_numberOfTrailingZeros_79 : decode cJ19_numberOfTrailingZeros 79 = .ok (.ireturn, 1) := dk_172 (dk_at dksJ19_numberOfTrailingZeros_3 8 rfl rfl)
abbrev cJ19_valueOf : ByteArray := prog_61_method_22_code
def yJ19_valueOf : MethodName := ⟨RJ19, "valueOf", "(I)Ljava/lang/Integer;"⟩
def dkwJ19_valueOf_1 : List UInt8 := [187, 0, 1, 89, 26, 183, 0, 199, 176]
abbrev dktJ19_valueOf_1 : List UInt8 := dkwJ19_valueOf_1 ++ []
def dkwJ19_valueOf_0 : List UInt8 := [26, 16, 128, 161, 0, 20, 26, 178, 0, 191, 163, 0, 13, 178, 0, 195, 26, 17, 0, 128, 96, 50, 176]
abbrev dktJ19_valueOf_0 : List UInt8 := dkwJ19_valueOf_0 ++ dktJ19_valueOf_1
theorem dksJ19_valueOf_0 : cJ19_valueOf.data.toList.drop 0 = dktJ19_valueOf_0 := by decide +kernel
theorem dksJ19_valueOf_1 : cJ19_valueOf.data.toList.drop 23 = dktJ19_valueOf_1 := dk_seg dksJ19_valueOf_0 23 rfl rfl
theorem dJ19_valueOf_0 : decode cJ19_valueOf 0 = .ok (.iload_n 0, 1) := dk_26 (dk_at dksJ19_valueOf_0 0 rfl rfl)
theorem dJ19_valueOf_1 : decode cJ19_valueOf 1 = .ok (.bipush (-128), 2) := dk_16 128 (dk_at dksJ19_valueOf_0 1 rfl rfl)
theorem dJ19_valueOf_3 : decode cJ19_valueOf 3 = .ok (.if_icmp .lt 20, 3) := dk_161 0 20 (dk_at dksJ19_valueOf_0 3 rfl rfl)
theorem dJ19_valueOf_6 : decode cJ19_valueOf 6 = .ok (.iload_n 0, 1) := dk_26 (dk_at dksJ19_valueOf_0 6 rfl rfl)
theorem dJ19_valueOf_7 : decode cJ19_valueOf 7 = .ok (.getstatic 191, 3) := dk_178 0 191 (dk_at dksJ19_valueOf_0 7 rfl rfl)
theorem dJ19_valueOf_10 : decode cJ19_valueOf 10 = .ok (.if_icmp .gt 13, 3) := dk_163 0 13 (dk_at dksJ19_valueOf_0 10 rfl rfl)
theorem dJ19_valueOf_13 : decode cJ19_valueOf 13 = .ok (.getstatic 195, 3) := dk_178 0 195 (dk_at dksJ19_valueOf_0 13 rfl rfl)
theorem dJ19_valueOf_16 : decode cJ19_valueOf 16 = .ok (.iload_n 0, 1) := dk_26 (dk_at dksJ19_valueOf_0 16 rfl rfl)
theorem dJ19_valueOf_17 : decode cJ19_valueOf 17 = .ok (.sipush 128, 3) := dk_17 0 128 (dk_at dksJ19_valueOf_0 17 rfl rfl)
theorem dJ19_valueOf_20 : decode cJ19_valueOf 20 = .ok (.iadd, 1) := dk_96 (dk_at dksJ19_valueOf_0 20 rfl rfl)
theorem dJ19_valueOf_21 : decode cJ19_valueOf 21 = .ok (.aaload, 1) := dk_50 (dk_at dksJ19_valueOf_0 21 rfl rfl)
theorem dJ19_valueOf_22 : decode cJ19_valueOf 22 = .ok (.areturn, 1) := dk_176 (dk_at dksJ19_valueOf_0 22 rfl rfl)
theorem dJ19_valueOf_23 : decode cJ19_valueOf 23 = .ok (.new 1, 3) := dk_187 0 1 (dk_at dksJ19_valueOf_1 0 rfl rfl)
theorem dJ19_valueOf_26 : decode cJ19_valueOf 26 = .ok (.dup, 1) := dk_89 (dk_at dksJ19_valueOf_1 3 rfl rfl)
theorem dJ19_valueOf_27 : decode cJ19_valueOf 27 = .ok (.iload_n 0, 1) := dk_26 (dk_at dksJ19_valueOf_1 4 rfl rfl)
theorem dJ19_valueOf_28 : decode cJ19_valueOf 28 = .ok (.invokespecial 199, 3) := dk_183 0 199 (dk_at dksJ19_valueOf_1 5 rfl rfl)
theorem dJ19_valueOf_31 : decode cJ19_valueOf 31 = .ok (.areturn, 1) := dk_176 (dk_at dksJ19_valueOf_1 8 rfl rfl)
abbrev cJ19_init : ByteArray := prog_61_method_23_code
def yJ19_init : MethodName := ⟨RJ19, "<init>", "(I)V"⟩
def dkwJ19_init_0 : List UInt8 := [42, 183, 0, 202, 42, 27, 181, 0, 205, 177]
abbrev dktJ19_init_0 : List UInt8 := dkwJ19_init_0 ++ []
theorem dksJ19_init_0 : cJ19_init.data.toList.drop 0 = dktJ19_init_0 := by decide +kernel
theorem dJ19_init_0 : decode cJ19_init 0 = .ok (.aload_n 0, 1) := dk_42 (dk_at dksJ19_init_0 0 rfl rfl)
theorem dJ19_init_1 : decode cJ19_init 1 = .ok (.invokespecial 202, 3) := dk_183 0 202 (dk_at dksJ19_init_0 1 rfl rfl)
theorem dJ19_init_4 : decode cJ19_init 4 = .ok (.aload_n 0, 1) := dk_42 (dk_at dksJ19_init_0 4 rfl rfl)
theorem dJ19_init_5 : decode cJ19_init 5 = .ok (.iload_n 1, 1) := dk_27 (dk_at dksJ19_init_0 5 rfl rfl)
theorem dJ19_init_6 : decode cJ19_init 6 = .ok (.putfield 205, 3) := dk_181 0 205 (dk_at dksJ19_init_0 6 rfl rfl)
theorem dJ19_init_9 : decode cJ19_init 9 = .ok (.return_, 1) := dk_177 (dk_at dksJ19_init_0 9 rfl rfl)
theorem q130 : (Jvm.Cond.initialized "java/lang/Integer") ∈ lw_all := lw_g (lw_at lw_m1 31 rfl) rfl
theorem q572 : (Jvm.Cond.static ({ cls := "java/lang/Integer", name := "stringSize", desc := "(I)I" } : Jvm.MethodName)) ∈ lw_all := lw_g (lw_at lw_m2 233 rfl) rfl
theorem q573 : (Jvm.Cond.code ({ cls := "java/lang/Integer", name := "stringSize", desc := "(I)I" } : Jvm.MethodName) prog_61_method_13_code (4 : Nat) (Option.some Jvm.ClassFile.FieldType.int)) ∈ lw_all := lw_g (lw_at lw_m2 234 rfl) rfl
theorem q575 : (Jvm.Cond.static ({ cls := "java/lang/Integer", name := "getChars", desc := "(II[B)I" } : Jvm.MethodName)) ∈ lw_all := lw_g (lw_at lw_m2 236 rfl) rfl
theorem q576 : (Jvm.Cond.code ({ cls := "java/lang/Integer", name := "getChars", desc := "(II[B)I" } : Jvm.MethodName) prog_61_method_12_code (7 : Nat) (Option.some Jvm.ClassFile.FieldType.int)) ∈ lw_all := lw_g (lw_at lw_m2 237 rfl) rfl
theorem q577 : (Jvm.Cond.fieldLink "java/lang/Integer" (83 : Nat) "java/lang/Integer" "DigitOnes" "[B") ∈ lw_all := lw_g (lw_at lw_m2 238 rfl) rfl
theorem q578 : (Jvm.Cond.laysStatic "java/lang/Integer" "DigitOnes" "[B") ∈ lw_tbl := lw_at lw_m2 239 rfl
theorem q579 : (Jvm.Cond.fieldLink "java/lang/Integer" (87 : Nat) "java/lang/Integer" "DigitTens" "[B") ∈ lw_all := lw_g (lw_at lw_m3 0 rfl) rfl
theorem q580 : (Jvm.Cond.laysStatic "java/lang/Integer" "DigitTens" "[B") ∈ lw_tbl := lw_at lw_m3 1 rfl
theorem q830 : (Jvm.Cond.selects "java/lang/Integer" ({ cls := "java/lang/Object", name := "getClass", desc := "()Ljava/lang/Class;" } : Jvm.MethodName) ({ cls := "java/lang/Object", name := "getClass", desc := "()Ljava/lang/Class;" } : Jvm.MethodName)) ∈ lw_all := lw_g (lw_at lw_m4 11 rfl) rfl
theorem q1093 : (Jvm.Cond.selects "java/lang/Integer" ({ cls := "java/lang/Object", name := "hashCode", desc := "()I" } : Jvm.MethodName) ({ cls := "java/lang/Integer", name := "hashCode", desc := "()I" } : Jvm.MethodName)) ∈ lw_all := lw_g (lw_at lw_m5 34 rfl) rfl
theorem q1094 : (Jvm.Cond.instanceMethod ({ cls := "java/lang/Integer", name := "hashCode", desc := "()I" } : Jvm.MethodName)) ∈ lw_all := lw_g (lw_at lw_m5 35 rfl) rfl
theorem q1095 : (Jvm.Cond.code ({ cls := "java/lang/Integer", name := "hashCode", desc := "()I" } : Jvm.MethodName) prog_61_method_32_code (1 : Nat) (Option.some Jvm.ClassFile.FieldType.int)) ∈ lw_all := lw_g (lw_at lw_m5 36 rfl) rfl
theorem q1096 : (Jvm.Cond.methodLink "java/lang/Integer" (208 : Nat) ({ cls := "java/lang/Integer", name := "hashCode", desc := "(I)I" } : Jvm.MethodName)) ∈ lw_all := lw_g (lw_at lw_m5 37 rfl) rfl
theorem q1097 : (Jvm.Cond.static ({ cls := "java/lang/Integer", name := "hashCode", desc := "(I)I" } : Jvm.MethodName)) ∈ lw_all := lw_g (lw_at lw_m5 38 rfl) rfl
theorem q1098 : (Jvm.Cond.code ({ cls := "java/lang/Integer", name := "hashCode", desc := "(I)I" } : Jvm.MethodName) prog_61_method_33_code (1 : Nat) (Option.some Jvm.ClassFile.FieldType.int)) ∈ lw_all := lw_g (lw_at lw_m5 39 rfl) rfl
theorem q1210 : (Jvm.Cond.selects "java/lang/Integer" ({ cls := "java/lang/Object", name := "equals", desc := "(Ljava/lang/Object;)Z" } : Jvm.MethodName) ({ cls := "java/lang/Integer", name := "equals", desc := "(Ljava/lang/Object;)Z" } : Jvm.MethodName)) ∈ lw_all := lw_g (lw_at lw_m5 151 rfl) rfl
theorem q1211 : (Jvm.Cond.instanceMethod ({ cls := "java/lang/Integer", name := "equals", desc := "(Ljava/lang/Object;)Z" } : Jvm.MethodName)) ∈ lw_all := lw_g (lw_at lw_m5 152 rfl) rfl
theorem q1212 : (Jvm.Cond.code ({ cls := "java/lang/Integer", name := "equals", desc := "(Ljava/lang/Object;)Z" } : Jvm.MethodName) prog_61_method_34_code (2 : Nat) (Option.some Jvm.ClassFile.FieldType.boolean)) ∈ lw_all := lw_g (lw_at lw_m5 153 rfl) rfl
theorem q1213 : (Jvm.Cond.classLink "java/lang/Integer" (1 : Nat) "java/lang/Integer") ∈ lw_all := lw_g (lw_at lw_m5 154 rfl) rfl
theorem q1214 : (Jvm.Cond.methodLink "java/lang/Integer" (211 : Nat) ({ cls := "java/lang/Integer", name := "intValue", desc := "()I" } : Jvm.MethodName)) ∈ lw_all := lw_g (lw_at lw_m5 155 rfl) rfl
theorem q1215 : (Jvm.Cond.instanceMethod ({ cls := "java/lang/Integer", name := "intValue", desc := "()I" } : Jvm.MethodName)) ∈ lw_all := lw_g (lw_at lw_m5 156 rfl) rfl
theorem q1216 : (Jvm.Cond.selects "java/lang/Integer" ({ cls := "java/lang/Integer", name := "intValue", desc := "()I" } : Jvm.MethodName) ({ cls := "java/lang/Integer", name := "intValue", desc := "()I" } : Jvm.MethodName)) ∈ lw_all := lw_g (lw_at lw_m5 157 rfl) rfl
theorem q1217 : (Jvm.Cond.code ({ cls := "java/lang/Integer", name := "intValue", desc := "()I" } : Jvm.MethodName) prog_61_method_27_code (1 : Nat) (Option.some Jvm.ClassFile.FieldType.int)) ∈ lw_all := lw_g (lw_at lw_m5 158 rfl) rfl
theorem q1353 : (Jvm.Cond.castable "java/lang/Integer" "java/lang/Comparable") ∈ lw_tbl := lw_at lw_m6 54 rfl
theorem q1354 : (Jvm.Cond.selects "java/lang/Integer" ({ cls := "java/lang/Comparable", name := "compareTo", desc := "(Ljava/lang/Object;)I" } : Jvm.MethodName) ({ cls := "java/lang/Integer", name := "compareTo", desc := "(Ljava/lang/Object;)I" } : Jvm.MethodName)) ∈ lw_all := lw_g (lw_at lw_m6 55 rfl) rfl
theorem q1355 : (Jvm.Cond.unhidden "java/lang/Integer" "compareTo" "(Ljava/lang/Object;)I") ∈ lw_tbl := lw_at lw_m6 56 rfl
theorem q1356 : (Jvm.Cond.instanceMethod ({ cls := "java/lang/Integer", name := "compareTo", desc := "(Ljava/lang/Object;)I" } : Jvm.MethodName)) ∈ lw_all := lw_g (lw_at lw_m6 57 rfl) rfl
theorem q1357 : (Jvm.Cond.publicMethod ({ cls := "java/lang/Integer", name := "compareTo", desc := "(Ljava/lang/Object;)I" } : Jvm.MethodName)) ∈ lw_tbl := lw_at lw_m6 58 rfl
theorem q1358 : (Jvm.Cond.code ({ cls := "java/lang/Integer", name := "compareTo", desc := "(Ljava/lang/Object;)I" } : Jvm.MethodName) prog_61_method_63_code (2 : Nat) (Option.some Jvm.ClassFile.FieldType.int)) ∈ lw_all := lw_g (lw_at lw_m6 59 rfl) rfl
theorem q1359 : (Jvm.Cond.methodLink "java/lang/Integer" (284 : Nat) ({ cls := "java/lang/Integer", name := "compareTo", desc := "(Ljava/lang/Integer;)I" } : Jvm.MethodName)) ∈ lw_all := lw_g (lw_at lw_m6 60 rfl) rfl
theorem q1360 : (Jvm.Cond.instanceMethod ({ cls := "java/lang/Integer", name := "compareTo", desc := "(Ljava/lang/Integer;)I" } : Jvm.MethodName)) ∈ lw_all := lw_g (lw_at lw_m6 61 rfl) rfl
theorem q1361 : (Jvm.Cond.selects "java/lang/Integer" ({ cls := "java/lang/Integer", name := "compareTo", desc := "(Ljava/lang/Integer;)I" } : Jvm.MethodName) ({ cls := "java/lang/Integer", name := "compareTo", desc := "(Ljava/lang/Integer;)I" } : Jvm.MethodName)) ∈ lw_all := lw_g (lw_at lw_m6 62 rfl) rfl
theorem q1362 : (Jvm.Cond.code ({ cls := "java/lang/Integer", name := "compareTo", desc := "(Ljava/lang/Integer;)I" } : Jvm.MethodName) prog_61_method_39_code (2 : Nat) (Option.some Jvm.ClassFile.FieldType.int)) ∈ lw_all := lw_g (lw_at lw_m6 63 rfl) rfl
theorem q1363 : (Jvm.Cond.methodLink "java/lang/Integer" (259 : Nat) ({ cls := "java/lang/Integer", name := "compare", desc := "(II)I" } : Jvm.MethodName)) ∈ lw_all := lw_g (lw_at lw_m6 64 rfl) rfl
theorem q1364 : (Jvm.Cond.static ({ cls := "java/lang/Integer", name := "compare", desc := "(II)I" } : Jvm.MethodName)) ∈ lw_all := lw_g (lw_at lw_m6 65 rfl) rfl
theorem q1365 : (Jvm.Cond.code ({ cls := "java/lang/Integer", name := "compare", desc := "(II)I" } : Jvm.MethodName) prog_61_method_40_code (2 : Nat) (Option.some Jvm.ClassFile.FieldType.int)) ∈ lw_all := lw_g (lw_at lw_m6 66 rfl) rfl
theorem q1454 : (Jvm.Cond.static ({ cls := "java/lang/Integer", name := "numberOfLeadingZeros", desc := "(I)I" } : Jvm.MethodName)) ∈ lw_all := lw_g (lw_at lw_m6 155 rfl) rfl
theorem q1455 : (Jvm.Cond.code ({ cls := "java/lang/Integer", name := "numberOfLeadingZeros", desc := "(I)I" } : Jvm.MethodName) prog_61_method_47_code (2 : Nat) (Option.some Jvm.ClassFile.FieldType.int)) ∈ lw_all := lw_g (lw_at lw_m6 156 rfl) rfl
theorem q1456 : (Jvm.Cond.constant "java/lang/Integer" (264 : Nat) (65536 : Int32)) ∈ lw_all := lw_g (lw_at lw_m6 157 rfl) rfl
theorem q1463 : (Jvm.Cond.static ({ cls := "java/lang/Integer", name := "numberOfTrailingZeros", desc := "(I)I" } : Jvm.MethodName)) ∈ lw_all := lw_g (lw_at lw_m6 164 rfl) rfl
theorem q1464 : (Jvm.Cond.code ({ cls := "java/lang/Integer", name := "numberOfTrailingZeros", desc := "(I)I" } : Jvm.MethodName) prog_61_method_48_code (2 : Nat) (Option.some Jvm.ClassFile.FieldType.int)) ∈ lw_all := lw_g (lw_at lw_m6 165 rfl) rfl
theorem q1562 : (Jvm.Cond.static ({ cls := "java/lang/Integer", name := "valueOf", desc := "(I)Ljava/lang/Integer;" } : Jvm.MethodName)) ∈ lw_all := lw_g (lw_at lw_m7 23 rfl) rfl
theorem q1563 : (Jvm.Cond.code ({ cls := "java/lang/Integer", name := "valueOf", desc := "(I)Ljava/lang/Integer;" } : Jvm.MethodName) prog_61_method_22_code (1 : Nat) (Option.some (Jvm.ClassFile.FieldType.object "java/lang/Integer"))) ∈ lw_all := lw_g (lw_at lw_m7 24 rfl) rfl
theorem q1564 : (Jvm.Cond.fieldLink "java/lang/Integer" (191 : Nat) "java/lang/Integer$IntegerCache" "high" "I") ∈ lw_all := lw_g (lw_at lw_m7 25 rfl) rfl
theorem q1566 : (Jvm.Cond.fieldLink "java/lang/Integer" (195 : Nat) "java/lang/Integer$IntegerCache" "cache" "[Ljava/lang/Integer;") ∈ lw_all := lw_g (lw_at lw_m7 27 rfl) rfl
theorem q1568 : (Jvm.Cond.instantiable "java/lang/Integer" (1 : Nat)) ∈ lw_all := lw_g (lw_at lw_m7 29 rfl) rfl
theorem q1569 : (Jvm.Cond.methodLink "java/lang/Integer" (199 : Nat) ({ cls := "java/lang/Integer", name := "<init>", desc := "(I)V" } : Jvm.MethodName)) ∈ lw_all := lw_g (lw_at lw_m7 30 rfl) rfl
theorem q1570 : (Jvm.Cond.instanceMethod ({ cls := "java/lang/Integer", name := "<init>", desc := "(I)V" } : Jvm.MethodName)) ∈ lw_all := lw_g (lw_at lw_m7 31 rfl) rfl
theorem q1571 : (Jvm.Cond.code ({ cls := "java/lang/Integer", name := "<init>", desc := "(I)V" } : Jvm.MethodName) prog_61_method_23_code (2 : Nat) (Option.none : Option Jvm.ClassFile.FieldType)) ∈ lw_all := lw_g (lw_at lw_m7 32 rfl) rfl
theorem q1572 : (Jvm.Cond.methodLink "java/lang/Integer" (202 : Nat) ({ cls := "java/lang/Number", name := "<init>", desc := "()V" } : Jvm.MethodName)) ∈ lw_all := lw_g (lw_at lw_m7 33 rfl) rfl
theorem q1576 : (Jvm.Cond.fieldLink "java/lang/Integer" (205 : Nat) "java/lang/Integer" "value" "I") ∈ lw_all := lw_g (lw_at lw_m7 37 rfl) rfl
theorem q1577 : (Jvm.Cond.laysFinal "java/lang/Integer" "java/lang/Integer" "value" "I") ∈ lw_all := lw_g (lw_at lw_m7 38 rfl) rfl
theorem q1578 : (Jvm.Cond.soleField "java/lang/Integer" "value") ∈ lw_all := lw_g (lw_at lw_m7 39 rfl) rfl
theorem q1579 : (Jvm.Cond.superclass "java/lang/Integer" "java/lang/Number") ∈ lw_all := lw_g (lw_at lw_m7 40 rfl) rfl
theorem q3421 : (Jvm.Cond.castable "java/lang/Integer" "java/lang/Object") ∈ lw_tbl := lw_at lw_m14 202 rfl
theorem in_J19 : ∀ w ∈ wsJ190, w ∈ lw_all := lw_in wsJ190 [1577] (by decide +kernel) (by decide +kernel)

/-! java/util/AbstractMap -/
def RJ21 : String := "java/util/AbstractMap"
abbrev cJ21_init : ByteArray := prog_79_method_1_code
def yJ21_init : MethodName := ⟨RJ21, "<init>", "()V"⟩
theorem dJ21_init_0 : decode cJ21_init 0 = .ok (.aload_n 0, 1) := by decide +kernel
theorem dJ21_init_1 : decode cJ21_init 1 = .ok (.invokespecial 1, 3) := by decide +kernel
theorem dJ21_init_4 : decode cJ21_init 4 = .ok (.return_, 1) := by decide +kernel
theorem q132 : (Jvm.Cond.initialized "java/util/AbstractMap") ∈ lw_all := lw_g (lw_at lw_m1 33 rfl) rfl
theorem q864 : (Jvm.Cond.instanceMethod ({ cls := "java/util/AbstractMap", name := "<init>", desc := "()V" } : Jvm.MethodName)) ∈ lw_all := lw_g (lw_at lw_m4 45 rfl) rfl
theorem q865 : (Jvm.Cond.code ({ cls := "java/util/AbstractMap", name := "<init>", desc := "()V" } : Jvm.MethodName) prog_79_method_1_code (1 : Nat) (Option.none : Option Jvm.ClassFile.FieldType)) ∈ lw_all := lw_g (lw_at lw_m4 46 rfl) rfl
theorem q866 : (Jvm.Cond.methodLink "java/util/AbstractMap" (1 : Nat) ({ cls := "java/lang/Object", name := "<init>", desc := "()V" } : Jvm.MethodName)) ∈ lw_all := lw_g (lw_at lw_m4 47 rfl) rfl
theorem q886 : (Jvm.Cond.soleField "java/util/AbstractMap" "keySet") ∈ lw_all := lw_g (lw_at lw_m4 67 rfl) rfl
theorem q888 : (Jvm.Cond.soleField "java/util/AbstractMap" "values") ∈ lw_all := lw_g (lw_at lw_m4 69 rfl) rfl

/-! java/util/HashMap -/
def RJ22 : String := "java/util/HashMap"
def TJ22 : u_T := fun k => match k with
  | 0 => ("java/util/AbstractMap", "keySet", "Ljava/util/Set;", false)
  | 1 => ("java/util/AbstractMap", "values", "Ljava/util/Collection;", false)
  | 2 => ("java/util/HashMap", "table", "[Ljava/util/HashMap$Node;", false)
  | 3 => ("java/util/HashMap", "entrySet", "Ljava/util/Set;", false)
  | 4 => ("java/util/HashMap", "size", "I", false)
  | 5 => ("java/util/HashMap", "modCount", "I", false)
  | 6 => ("java/util/HashMap", "threshold", "I", false)
  | _ => ("java/util/HashMap", "loadFactor", "F", true)
def tyJ22 : Nat → FieldType := fun k => match k with
  | 0 => .object "java/util/Set"
  | 1 => .object "java/util/Collection"
  | 2 => .array (.object "java/util/HashMap$Node")
  | 3 => .object "java/util/Set"
  | 4 => .int
  | 5 => .int
  | 6 => .int
  | _ => .float
abbrev wsJ220 : List Cond := u_ws RJ22 TJ22 8
theorem nmJ22 : ∀ a, a < 8 → ∀ b, b < 8 → a ≠ b → (TJ22 a).2.1 ≠ (TJ22 b).2.1 := by decide +kernel
theorem tyJ22_ok : ∀ k, k < 8 → parseFieldDescriptor (TJ22 k).2.2.1 = some (tyJ22 k) := by decide +kernel
abbrev cJ22_init : ByteArray := prog_84_method_7_code
def yJ22_init : MethodName := ⟨RJ22, "<init>", "()V"⟩
def dkwJ22_init_0 : List UInt8 := [42, 183, 0, 43, 42, 18, 92, 181, 0, 81, 177]
abbrev dktJ22_init_0 : List UInt8 := dkwJ22_init_0 ++ []
theorem dksJ22_init_0 : cJ22_init.data.toList.drop 0 = dktJ22_init_0 := by decide +kernel
theorem dJ22_init_0 : decode cJ22_init 0 = .ok (.aload_n 0, 1) := dk_42 (dk_at dksJ22_init_0 0 rfl rfl)
theorem dJ22_init_1 : decode cJ22_init 1 = .ok (.invokespecial 43, 3) := dk_183 0 43 (dk_at dksJ22_init_0 1 rfl rfl)
theorem dJ22_init_4 : decode cJ22_init 4 = .ok (.aload_n 0, 1) := dk_42 (dk_at dksJ22_init_0 4 rfl rfl)
theorem dJ22_init_5 : decode cJ22_init 5 = .ok (.ldc 92, 2) := dk_18 92 (dk_at dksJ22_init_0 5 rfl rfl)
theorem dJ22_init_7 : decode cJ22_init 7 = .ok (.putfield 81, 3) := dk_181 0 81 (dk_at dksJ22_init_0 7 rfl rfl)
theorem dJ22_init_10 : decode cJ22_init 10 = .ok (.return_, 1) := dk_177 (dk_at dksJ22_init_0 10 rfl rfl)
abbrev cJ22_containsKey : ByteArray := prog_84_method_14_code
def yJ22_containsKey : MethodName := ⟨RJ22, "containsKey", "(Ljava/lang/Object;)Z"⟩
def dkwJ22_containsKey_0 : List UInt8 := [42, 43, 182, 0, 158, 198, 0, 7, 4, 167, 0, 4, 3, 172]
abbrev dktJ22_containsKey_0 : List UInt8 := dkwJ22_containsKey_0 ++ []
theorem dksJ22_containsKey_0 : cJ22_containsKey.data.toList.drop 0 = dktJ22_containsKey_0 := by decide +kernel
theorem dJ22_containsKey_0 : decode cJ22_containsKey 0 = .ok (.aload_n 0, 1) := dk_42 (dk_at dksJ22_containsKey_0 0 rfl rfl)
theorem dJ22_containsKey_1 : decode cJ22_containsKey 1 = .ok (.aload_n 1, 1) := dk_43 (dk_at dksJ22_containsKey_0 1 rfl rfl)
theorem dJ22_containsKey_2 : decode cJ22_containsKey 2 = .ok (.invokevirtual 158, 3) := dk_182 0 158 (dk_at dksJ22_containsKey_0 2 rfl rfl)
theorem dJ22_containsKey_5 : decode cJ22_containsKey 5 = .ok (.ifnull 7, 3) := dk_198 0 7 (dk_at dksJ22_containsKey_0 5 rfl rfl)
theorem dJ22_containsKey_8 : decode cJ22_containsKey 8 = .ok (.iconst 1, 1) := dk_4 (dk_at dksJ22_containsKey_0 8 rfl rfl)
theorem dJ22_containsKey_9 : decode cJ22_containsKey 9 = .ok (.goto 4, 3) := dk_167 0 4 (dk_at dksJ22_containsKey_0 9 rfl rfl)
theorem dJ22_containsKey_12 : decode cJ22_containsKey 12 = .ok (.iconst 0, 1) := dk_3 (dk_at dksJ22_containsKey_0 12 rfl rfl)
theorem dJ22_containsKey_13 : decode cJ22_containsKey 13 = .ok (.ireturn, 1) := dk_172 (dk_at dksJ22_containsKey_0 13 rfl rfl)
abbrev cJ22_getNode : ByteArray := prog_84_method_13_code
def yJ22_getNode : MethodName := ⟨RJ22, "getNode", "(Ljava/lang/Object;)Ljava/util/HashMap$Node;"⟩
def dkwJ22_getNode_6 : List UInt8 := [89, 58, 4, 199, 255, 210, 1, 176]
abbrev dktJ22_getNode_6 : List UInt8 := dkwJ22_getNode_6 ++ []
def dkwJ22_getNode_5 : List UInt8 := [165, 0, 16, 43, 198, 0, 15, 43, 25, 7, 182, 0, 173, 153, 0, 6, 25, 4, 176, 25, 4, 180, 0, 177]
abbrev dktJ22_getNode_5 : List UInt8 := dkwJ22_getNode_5 ++ dktJ22_getNode_6
def dkwJ22_getNode_4 : List UInt8 := [43, 182, 0, 182, 176, 25, 4, 180, 0, 168, 21, 6, 160, 0, 31, 25, 4, 180, 0, 170, 89, 58, 7, 43]
abbrev dktJ22_getNode_4 : List UInt8 := dkwJ22_getNode_4 ++ dktJ22_getNode_5
def dkwJ22_getNode_3 : List UInt8 := [176, 45, 180, 0, 177, 89, 58, 4, 198, 0, 70, 45, 193, 0, 180, 153, 0, 14, 45, 192, 0, 180, 21, 6]
abbrev dktJ22_getNode_3 : List UInt8 := dkwJ22_getNode_3 ++ dktJ22_getNode_4
def dkwJ22_getNode_2 : List UInt8 := [180, 0, 170, 89, 58, 7, 43, 165, 0, 16, 43, 198, 0, 14, 43, 25, 7, 182, 0, 173, 153, 0, 5, 45]
abbrev dktJ22_getNode_2 : List UInt8 := dkwJ22_getNode_2 ++ dktJ22_getNode_3
def dkwJ22_getNode_1 : List UInt8 := [184, 0, 149, 89, 54, 6, 126, 50, 89, 78, 198, 0, 115, 45, 180, 0, 168, 21, 6, 160, 0, 29, 45]
abbrev dktJ22_getNode_1 : List UInt8 := dkwJ22_getNode_1 ++ dktJ22_getNode_2
def dkwJ22_getNode_0 : List UInt8 := [42, 180, 0, 105, 89, 77, 198, 0, 142, 44, 190, 89, 54, 5, 158, 0, 134, 44, 21, 5, 4, 100, 43]
abbrev dktJ22_getNode_0 : List UInt8 := dkwJ22_getNode_0 ++ dktJ22_getNode_1
theorem dksJ22_getNode_0 : cJ22_getNode.data.toList.drop 0 = dktJ22_getNode_0 := by decide +kernel
theorem dksJ22_getNode_1 : cJ22_getNode.data.toList.drop 23 = dktJ22_getNode_1 := dk_seg dksJ22_getNode_0 23 rfl rfl
theorem dksJ22_getNode_2 : cJ22_getNode.data.toList.drop 46 = dktJ22_getNode_2 := dk_seg dksJ22_getNode_1 23 rfl rfl
theorem dksJ22_getNode_3 : cJ22_getNode.data.toList.drop 70 = dktJ22_getNode_3 := dk_seg dksJ22_getNode_2 24 rfl rfl
theorem dksJ22_getNode_4 : cJ22_getNode.data.toList.drop 94 = dktJ22_getNode_4 := dk_seg dksJ22_getNode_3 24 rfl rfl
theorem dksJ22_getNode_5 : cJ22_getNode.data.toList.drop 118 = dktJ22_getNode_5 := dk_seg dksJ22_getNode_4 24 rfl rfl
theorem dksJ22_getNode_6 : cJ22_getNode.data.toList.drop 142 = dktJ22_getNode_6 := dk_seg dksJ22_getNode_5 24 rfl rfl
theorem dJ22_getNode_0 : decode cJ22_getNode 0 = .ok (.aload_n 0, 1) := dk_42 (dk_at dksJ22_getNode_0 0 rfl rfl)
theorem dJ22_getNode_1 : decode cJ22_getNode 1 = .ok (.getfield 105, 3) := dk_180 0 105 (dk_at dksJ22_getNode_0 1 rfl rfl)
theorem dJ22_getNode_4 : decode cJ22_getNode 4 = .ok (.dup, 1) := dk_89 (dk_at dksJ22_getNode_0 4 rfl rfl)
theorem dJ22_getNode_5 : decode cJ22_getNode 5 = .ok (.astore_n 2, 1) := dk_77 (dk_at dksJ22_getNode_0 5 rfl rfl)
theorem dJ22_getNode_6 : decode cJ22_getNode 6 = .ok (.ifnull 142, 3) := dk_198 0 142 (dk_at dksJ22_getNode_0 6 rfl rfl)
theorem dJ22_getNode_9 : decode cJ22_getNode 9 = .ok (.aload_n 2, 1) := dk_44 (dk_at dksJ22_getNode_0 9 rfl rfl)
theorem dJ22_getNode_10 : decode cJ22_getNode 10 = .ok (.arraylength, 1) := dk_190 (dk_at dksJ22_getNode_0 10 rfl rfl)
theorem dJ22_getNode_11 : decode cJ22_getNode 11 = .ok (.dup, 1) := dk_89 (dk_at dksJ22_getNode_0 11 rfl rfl)
theorem dJ22_getNode_12 : decode cJ22_getNode 12 = .ok (.istore 5, 2) := dk_54 5 (dk_at dksJ22_getNode_0 12 rfl rfl)
theorem dJ22_getNode_14 : decode cJ22_getNode 14 = .ok (.ifCond .le 134, 3) := dk_158 0 134 (dk_at dksJ22_getNode_0 14 rfl rfl)
theorem dJ22_getNode_17 : decode cJ22_getNode 17 = .ok (.aload_n 2, 1) := dk_44 (dk_at dksJ22_getNode_0 17 rfl rfl)
theorem dJ22_getNode_18 : decode cJ22_getNode 18 = .ok (.iload 5, 2) := dk_21 5 (dk_at dksJ22_getNode_0 18 rfl rfl)
theorem dJ22_getNode_20 : decode cJ22_getNode 20 = .ok (.iconst 1, 1) := dk_4 (dk_at dksJ22_getNode_0 20 rfl rfl)
theorem dJ22_getNode_21 : decode cJ22_getNode 21 = .ok (.isub, 1) := dk_100 (dk_at dksJ22_getNode_0 21 rfl rfl)
theorem dJ22_getNode_22 : decode cJ22_getNode 22 = .ok (.aload_n 1, 1) := dk_43 (dk_at dksJ22_getNode_0 22 rfl rfl)
theorem dJ22_getNode_23 : decode cJ22_getNode 23 = .ok (.invokestatic 149, 3) := dk_184 0 149 (dk_at dksJ22_getNode_1 0 rfl rfl)
theorem dJ22_getNode_26 : decode cJ22_getNode 26 = .ok (.dup, 1) := dk_89 (dk_at dksJ22_getNode_1 3 rfl rfl)
theorem dJ22_getNode_27 : decode cJ22_getNode 27 = .ok (.istore 6, 2) := dk_54 6 (dk_at dksJ22_getNode_1 4 rfl rfl)
theorem dJ22_getNode_29 : decode cJ22_getNode 29 = .ok (.iand, 1) := dk_126 (dk_at dksJ22_getNode_1 6 rfl rfl)
theorem dJ22_getNode_30 : decode cJ22_getNode 30 = .ok (.aaload, 1) := dk_50 (dk_at dksJ22_getNode_1 7 rfl rfl)
theorem dJ22_getNode_31 : decode cJ22_getNode 31 = .ok (.dup, 1) := dk_89 (dk_at dksJ22_getNode_1 8 rfl rfl)
theorem dJ22_getNode_32 : decode cJ22_getNode 32 = .ok (.astore_n 3, 1) := dk_78 (dk_at dksJ22_getNode_1 9 rfl rfl)
theorem dJ22_getNode_33 : decode cJ22_getNode 33 = .ok (.ifnull 115, 3) := dk_198 0 115 (dk_at dksJ22_getNode_1 10 rfl rfl)
theorem dJ22_getNode_36 : decode cJ22_getNode 36 = .ok (.aload_n 3, 1) := dk_45 (dk_at dksJ22_getNode_1 13 rfl rfl)
theorem dJ22_getNode_37 : decode cJ22_getNode 37 = .ok (.getfield 168, 3) := dk_180 0 168 (dk_at dksJ22_getNode_1 14 rfl rfl)
theorem dJ22_getNode_40 : decode cJ22_getNode 40 = .ok (.iload 6, 2) := dk_21 6 (dk_at dksJ22_getNode_1 17 rfl rfl)
theorem dJ22_getNode_42 : decode cJ22_getNode 42 = .ok (.if_icmp .ne 29, 3) := dk_160 0 29 (dk_at dksJ22_getNode_1 19 rfl rfl)
theorem dJ22_getNode_45 : decode cJ22_getNode 45 = .ok (.aload_n 3, 1) := dk_45 (dk_at dksJ22_getNode_1 22 rfl rfl)
theorem dJ22_getNode_46 : decode cJ22_getNode 46 = .ok (.getfield 170, 3) := dk_180 0 170 (dk_at dksJ22_getNode_2 0 rfl rfl)
theorem dJ22_getNode_49 : decode cJ22_getNode 49 = .ok (.dup, 1) := dk_89 (dk_at dksJ22_getNode_2 3 rfl rfl)
theorem dJ22_getNode_50 : decode cJ22_getNode 50 = .ok (.astore 7, 2) := dk_58 7 (dk_at dksJ22_getNode_2 4 rfl rfl)
theorem dJ22_getNode_52 : decode cJ22_getNode 52 = .ok (.aload_n 1, 1) := dk_43 (dk_at dksJ22_getNode_2 6 rfl rfl)
theorem dJ22_getNode_53 : decode cJ22_getNode 53 = .ok (.if_acmp .eq 16, 3) := dk_165 0 16 (dk_at dksJ22_getNode_2 7 rfl rfl)
theorem dJ22_getNode_56 : decode cJ22_getNode 56 = .ok (.aload_n 1, 1) := dk_43 (dk_at dksJ22_getNode_2 10 rfl rfl)
theorem dJ22_getNode_57 : decode cJ22_getNode 57 = .ok (.ifnull 14, 3) := dk_198 0 14 (dk_at dksJ22_getNode_2 11 rfl rfl)
theorem dJ22_getNode_60 : decode cJ22_getNode 60 = .ok (.aload_n 1, 1) := dk_43 (dk_at dksJ22_getNode_2 14 rfl rfl)
theorem dJ22_getNode_61 : decode cJ22_getNode 61 = .ok (.aload 7, 2) := dk_25 7 (dk_at dksJ22_getNode_2 15 rfl rfl)
theorem dJ22_getNode_63 : decode cJ22_getNode 63 = .ok (.invokevirtual 173, 3) := dk_182 0 173 (dk_at dksJ22_getNode_2 17 rfl rfl)
theorem dJ22_getNode_66 : decode cJ22_getNode 66 = .ok (.ifCond .eq 5, 3) := dk_153 0 5 (dk_at dksJ22_getNode_2 20 rfl rfl)
theorem dJ22_getNode_69 : decode cJ22_getNode 69 = .ok (.aload_n 3, 1) := dk_45 (dk_at dksJ22_getNode_2 23 rfl rfl)
theorem dJ22_getNode_70 : decode cJ22_getNode 70 = .ok (.areturn, 1) := dk_176 (dk_at dksJ22_getNode_3 0 rfl rfl)
theorem dJ22_getNode_71 : decode cJ22_getNode 71 = .ok (.aload_n 3, 1) := dk_45 (dk_at dksJ22_getNode_3 1 rfl rfl)
theorem dJ22_getNode_72 : decode cJ22_getNode 72 = .ok (.getfield 177, 3) := dk_180 0 177 (dk_at dksJ22_getNode_3 2 rfl rfl)
theorem dJ22_getNode_75 : decode cJ22_getNode 75 = .ok (.dup, 1) := dk_89 (dk_at dksJ22_getNode_3 5 rfl rfl)
theorem dJ22_getNode_76 : decode cJ22_getNode 76 = .ok (.astore 4, 2) := dk_58 4 (dk_at dksJ22_getNode_3 6 rfl rfl)
theorem dJ22_getNode_78 : decode cJ22_getNode 78 = .ok (.ifnull 70, 3) := dk_198 0 70 (dk_at dksJ22_getNode_3 8 rfl rfl)
theorem dJ22_getNode_81 : decode cJ22_getNode 81 = .ok (.aload_n 3, 1) := dk_45 (dk_at dksJ22_getNode_3 11 rfl rfl)
theorem dJ22_getNode_82 : decode cJ22_getNode 82 = .ok (.instanceof 180, 3) := dk_193 0 180 (dk_at dksJ22_getNode_3 12 rfl rfl)
theorem dJ22_getNode_85 : decode cJ22_getNode 85 = .ok (.ifCond .eq 14, 3) := dk_153 0 14 (dk_at dksJ22_getNode_3 15 rfl rfl)
theorem dJ22_getNode_88 : decode cJ22_getNode 88 = .ok (.aload_n 3, 1) := dk_45 (dk_at dksJ22_getNode_3 18 rfl rfl)
theorem dJ22_getNode_89 : decode cJ22_getNode 89 = .ok (.checkcast 180, 3) := dk_192 0 180 (dk_at dksJ22_getNode_3 19 rfl rfl)
theorem dJ22_getNode_92 : decode cJ22_getNode 92 = .ok (.iload 6, 2) := dk_21 6 (dk_at dksJ22_getNode_3 22 rfl rfl)
theorem dJ22_getNode_94 : decode cJ22_getNode 94 = .ok (.aload_n 1, 1) := dk_43 (dk_at dksJ22_getNode_4 0 rfl rfl)
theorem dJ22_getNode_95 : decode cJ22_getNode 95 = .ok (.invokevirtual 182, 3) := dk_182 0 182 (dk_at dksJ22_getNode_4 1 rfl rfl)
theorem dJ22_getNode_98 : decode cJ22_getNode 98 = .ok (.areturn, 1) := dk_176 (dk_at dksJ22_getNode_4 4 rfl rfl)
theorem dJ22_getNode_99 : decode cJ22_getNode 99 = .ok (.aload 4, 2) := dk_25 4 (dk_at dksJ22_getNode_4 5 rfl rfl)
theorem dJ22_getNode_101 : decode cJ22_getNode 101 = .ok (.getfield 168, 3) := dk_180 0 168 (dk_at dksJ22_getNode_4 7 rfl rfl)
theorem dJ22_getNode_104 : decode cJ22_getNode 104 = .ok (.iload 6, 2) := dk_21 6 (dk_at dksJ22_getNode_4 10 rfl rfl)
theorem dJ22_getNode_106 : decode cJ22_getNode 106 = .ok (.if_icmp .ne 31, 3) := dk_160 0 31 (dk_at dksJ22_getNode_4 12 rfl rfl)
theorem dJ22_getNode_109 : decode cJ22_getNode 109 = .ok (.aload 4, 2) := dk_25 4 (dk_at dksJ22_getNode_4 15 rfl rfl)
theorem dJ22_getNode_111 : decode cJ22_getNode 111 = .ok (.getfield 170, 3) := dk_180 0 170 (dk_at dksJ22_getNode_4 17 rfl rfl)
theorem dJ22_getNode_114 : decode cJ22_getNode 114 = .ok (.dup, 1) := dk_89 (dk_at dksJ22_getNode_4 20 rfl rfl)
theorem dJ22_getNode_115 : decode cJ22_getNode 115 = .ok (.astore 7, 2) := dk_58 7 (dk_at dksJ22_getNode_4 21 rfl rfl)
theorem dJ22_getNode_117 : decode cJ22_getNode 117 = .ok (.aload_n 1, 1) := dk_43 (dk_at dksJ22_getNode_4 23 rfl rfl)
theorem dJ22_getNode_118 : decode cJ22_getNode 118 = .ok (.if_acmp .eq 16, 3) := dk_165 0 16 (dk_at dksJ22_getNode_5 0 rfl rfl)
theorem dJ22_getNode_121 : decode cJ22_getNode 121 = .ok (.aload_n 1, 1) := dk_43 (dk_at dksJ22_getNode_5 3 rfl rfl)
theorem dJ22_getNode_122 : decode cJ22_getNode 122 = .ok (.ifnull 15, 3) := dk_198 0 15 (dk_at dksJ22_getNode_5 4 rfl rfl)
theorem dJ22_getNode_125 : decode cJ22_getNode 125 = .ok (.aload_n 1, 1) := dk_43 (dk_at dksJ22_getNode_5 7 rfl rfl)
theorem dJ22_getNode_126 : decode cJ22_getNode 126 = .ok (.aload 7, 2) := dk_25 7 (dk_at dksJ22_getNode_5 8 rfl rfl)
theorem dJ22_getNode_128 : decode cJ22_getNode 128 = .ok (.invokevirtual 173, 3) := dk_182 0 173 (dk_at dksJ22_getNode_5 10 rfl rfl)
theorem dJ22_getNode_131 : decode cJ22_getNode 131 = .ok (.ifCond .eq 6, 3) := dk_153 0 6 (dk_at dksJ22_getNode_5 13 rfl rfl)
theorem dJ22_getNode_134 : decode cJ22_getNode 134 = .ok (.aload 4, 2) := dk_25 4 (dk_at dksJ22_getNode_5 16 rfl rfl)
theorem dJ22_getNode_136 : decode cJ22_getNode 136 = .ok (.areturn, 1) := dk_176 (dk_at dksJ22_getNode_5 18 rfl rfl)
theorem dJ22_getNode_137 : decode cJ22_getNode 137 = .ok (.aload 4, 2) := dk_25 4 (dk_at dksJ22_getNode_5 19 rfl rfl)
theorem dJ22_getNode_139 : decode cJ22_getNode 139 = .ok (.getfield 177, 3) := dk_180 0 177 (dk_at dksJ22_getNode_5 21 rfl rfl)
theorem dJ22_getNode_142 : decode cJ22_getNode 142 = .ok (.dup, 1) := dk_89 (dk_at dksJ22_getNode_6 0 rfl rfl)
theorem dJ22_getNode_143 : decode cJ22_getNode 143 = .ok (.astore 4, 2) := dk_58 4 (dk_at dksJ22_getNode_6 1 rfl rfl)
theorem dJ22_getNode_145 : decode cJ22_getNode 145 = .ok (.ifnonnull (-46), 3) := dk_199 255 210 (dk_at dksJ22_getNode_6 3 rfl rfl)
theorem dJ22_getNode_148 : decode cJ22_getNode 148 = .ok (.aconst_null, 1) := dk_1 (dk_at dksJ22_getNode_6 6 rfl rfl)
theorem dJ22_getNode_149 : decode cJ22_getNode 149 = .ok (.areturn, 1) := dk_176 (dk_at dksJ22_getNode_6 7 rfl rfl)
abbrev cJ22_hash : ByteArray := prog_84_method_1_code
def yJ22_hash : MethodName := ⟨RJ22, "hash", "(Ljava/lang/Object;)I"⟩
def dkwJ22_hash_0 : List UInt8 := [42, 199, 0, 7, 3, 167, 0, 14, 42, 182, 0, 1, 89, 60, 27, 16, 16, 124, 130, 172]
abbrev dktJ22_hash_0 : List UInt8 := dkwJ22_hash_0 ++ []
theorem dksJ22_hash_0 : cJ22_hash.data.toList.drop 0 = dktJ22_hash_0 := by decide +kernel
theorem dJ22_hash_0 : decode cJ22_hash 0 = .ok (.aload_n 0, 1) := dk_42 (dk_at dksJ22_hash_0 0 rfl rfl)
theorem dJ22_hash_1 : decode cJ22_hash 1 = .ok (.ifnonnull 7, 3) := dk_199 0 7 (dk_at dksJ22_hash_0 1 rfl rfl)
theorem dJ22_hash_4 : decode cJ22_hash 4 = .ok (.iconst 0, 1) := dk_3 (dk_at dksJ22_hash_0 4 rfl rfl)
theorem dJ22_hash_5 : decode cJ22_hash 5 = .ok (.goto 14, 3) := dk_167 0 14 (dk_at dksJ22_hash_0 5 rfl rfl)
theorem dJ22_hash_8 : decode cJ22_hash 8 = .ok (.aload_n 0, 1) := dk_42 (dk_at dksJ22_hash_0 8 rfl rfl)
theorem dJ22_hash_9 : decode cJ22_hash 9 = .ok (.invokevirtual 1, 3) := dk_182 0 1 (dk_at dksJ22_hash_0 9 rfl rfl)
theorem dJ22_hash_12 : decode cJ22_hash 12 = .ok (.dup, 1) := dk_89 (dk_at dksJ22_hash_0 12 rfl rfl)
theorem dJ22_hash_13 : decode cJ22_hash 13 = .ok (.istore_n 1, 1) := dk_60 (dk_at dksJ22_hash_0 13 rfl rfl)
theorem dJ22_hash_14 : decode cJ22_hash 14 = .ok (.iload_n 1, 1) := dk_27 (dk_at dksJ22_hash_0 14 rfl rfl)
theorem dJ22_hash_15 : decode cJ22_hash 15 = .ok (.bipush 16, 2) := dk_16 16 (dk_at dksJ22_hash_0 15 rfl rfl)
theorem dJ22_hash_17 : decode cJ22_hash 17 = .ok (.iushr, 1) := dk_124 (dk_at dksJ22_hash_0 17 rfl rfl)
theorem dJ22_hash_18 : decode cJ22_hash 18 = .ok (.ixor, 1) := dk_130 (dk_at dksJ22_hash_0 18 rfl rfl)
theorem dJ22_hash_19 : decode cJ22_hash 19 = .ok (.ireturn, 1) := dk_172 (dk_at dksJ22_hash_0 19 rfl rfl)
abbrev cJ22_comparableClassFor : ByteArray := prog_84_method_2_code
def yJ22_comparableClassFor : MethodName := ⟨RJ22, "comparableClassFor", "(Ljava/lang/Object;)Ljava/lang/Class;"⟩
def dkwJ22_comparableClassFor_4 : List UInt8 := [4, 160, 0, 12, 45, 3, 50, 43, 166, 0, 5, 43, 176, 132, 7, 1, 167, 255, 186, 1, 176]
abbrev dktJ22_comparableClassFor_4 : List UInt8 := dkwJ22_comparableClassFor_4 ++ []
def dkwJ22_comparableClassFor_3 : List UInt8 := [185, 0, 23, 1, 0, 18, 7, 166, 0, 30, 25, 4, 185, 0, 27, 1, 0, 89, 78, 198, 0, 18, 45, 190]
abbrev dktJ22_comparableClassFor_3 : List UInt8 := dkwJ22_comparableClassFor_3 ++ dktJ22_comparableClassFor_4
def dkwJ22_comparableClassFor_2 : List UInt8 := [25, 5, 21, 7, 50, 58, 8, 25, 8, 193, 0, 21, 153, 0, 48, 25, 8, 192, 0, 21, 89, 58, 4]
abbrev dktJ22_comparableClassFor_2 : List UInt8 := dkwJ22_comparableClassFor_2 ++ dktJ22_comparableClassFor_3
def dkwJ22_comparableClassFor_1 : List UInt8 := [89, 77, 198, 0, 87, 44, 58, 5, 25, 5, 190, 54, 6, 3, 54, 7, 21, 7, 21, 6, 162, 0, 69]
abbrev dktJ22_comparableClassFor_1 : List UInt8 := dkwJ22_comparableClassFor_1 ++ dktJ22_comparableClassFor_2
def dkwJ22_comparableClassFor_0 : List UInt8 := [42, 193, 0, 7, 153, 0, 109, 42, 182, 0, 9, 89, 76, 18, 13, 166, 0, 5, 43, 176, 43, 182, 0, 15]
abbrev dktJ22_comparableClassFor_0 : List UInt8 := dkwJ22_comparableClassFor_0 ++ dktJ22_comparableClassFor_1
theorem dksJ22_comparableClassFor_0 : cJ22_comparableClassFor.data.toList.drop 0 = dktJ22_comparableClassFor_0 := by decide +kernel
theorem dksJ22_comparableClassFor_1 : cJ22_comparableClassFor.data.toList.drop 24 = dktJ22_comparableClassFor_1 := dk_seg dksJ22_comparableClassFor_0 24 rfl rfl
theorem dksJ22_comparableClassFor_2 : cJ22_comparableClassFor.data.toList.drop 47 = dktJ22_comparableClassFor_2 := dk_seg dksJ22_comparableClassFor_1 23 rfl rfl
theorem dksJ22_comparableClassFor_3 : cJ22_comparableClassFor.data.toList.drop 70 = dktJ22_comparableClassFor_3 := dk_seg dksJ22_comparableClassFor_2 23 rfl rfl
theorem dksJ22_comparableClassFor_4 : cJ22_comparableClassFor.data.toList.drop 94 = dktJ22_comparableClassFor_4 := dk_seg dksJ22_comparableClassFor_3 24 rfl rfl
theorem dJ22_comparableClassFor_0 : decode cJ22_comparableClassFor 0 = .ok (.aload_n 0, 1) := dk_42 (dk_at dksJ22_comparableClassFor_0 0 rfl rfl)
theorem dJ22_comparableClassFor_1 : decode cJ22_comparableClassFor 1 = .ok (.instanceof 7, 3) := dk_193 0 7 (dk_at dksJ22_comparableClassFor_0 1 rfl rfl)
theorem dJ22_comparableClassFor_4 : decode cJ22_comparableClassFor 4 = .ok (.ifCond .eq 109, 3) := dk_153 0 109 (dk_at dksJ22_comparableClassFor_0 4 rfl rfl)
theorem dJ22_comparableClassFor_7 : decode cJ22_comparableClassFor 7 = .ok (.aload_n 0, 1) := dk_42 (dk_at dksJ22_comparableClassFor_0 7 rfl rfl)
theorem dJ22_comparableClassFor_8 : decode cJ22_comparableClassFor 8 = .ok (.invokevirtual 9, 3) := dk_182 0 9 (dk_at dksJ22_comparableClassFor_0 8 rfl rfl)
theorem dJ22_comparableClassFor_11 : decode cJ22_comparableClassFor 11 = .ok (.dup, 1) := dk_89 (dk_at dksJ22_comparableClassFor_0 11 rfl rfl)
theorem dJ22_comparableClassFor_12 : decode cJ22_comparableClassFor 12 = .ok (.astore_n 1, 1) := dk_76 (dk_at dksJ22_comparableClassFor_0 12 rfl rfl)
theorem dJ22_comparableClassFor_13 : decode cJ22_comparableClassFor 13 = .ok (.ldc 13, 2) := dk_18 13 (dk_at dksJ22_comparableClassFor_0 13 rfl rfl)
theorem dJ22_comparableClassFor_15 : decode cJ22_comparableClassFor 15 = .ok (.if_acmp .ne 5, 3) := dk_166 0 5 (dk_at dksJ22_comparableClassFor_0 15 rfl rfl)
theorem dJ22_comparableClassFor_18 : decode cJ22_comparableClassFor 18 = .ok (.aload_n 1, 1) := dk_43 (dk_at dksJ22_comparableClassFor_0 18 rfl rfl)
theorem dJ22_comparableClassFor_19 : decode cJ22_comparableClassFor 19 = .ok (.areturn, 1) := dk_176 (dk_at dksJ22_comparableClassFor_0 19 rfl rfl)
theorem dJ22_comparableClassFor_20 : decode cJ22_comparableClassFor 20 = .ok (.aload_n 1, 1) := dk_43 (dk_at dksJ22_comparableClassFor_0 20 rfl rfl)
theorem dJ22_comparableClassFor_21 : decode cJ22_comparableClassFor 21 = .ok (.invokevirtual 15, 3) := dk_182 0 15 (dk_at dksJ22_comparableClassFor_0 21 rfl rfl)
theorem dJ22_comparableClassFor_24 : decode cJ22_comparableClassFor 24 = .ok (.dup, 1) := dk_89 (dk_at dksJ22_comparableClassFor_1 0 rfl rfl)
theorem dJ22_comparableClassFor_25 : decode cJ22_comparableClassFor 25 = .ok (.astore_n 2, 1) := dk_77 (dk_at dksJ22_comparableClassFor_1 1 rfl rfl)
theorem dJ22_comparableClassFor_26 : decode cJ22_comparableClassFor 26 = .ok (.ifnull 87, 3) := dk_198 0 87 (dk_at dksJ22_comparableClassFor_1 2 rfl rfl)
theorem dJ22_comparableClassFor_29 : decode cJ22_comparableClassFor 29 = .ok (.aload_n 2, 1) := dk_44 (dk_at dksJ22_comparableClassFor_1 5 rfl rfl)
theorem dJ22_comparableClassFor_30 : decode cJ22_comparableClassFor 30 = .ok (.astore 5, 2) := dk_58 5 (dk_at dksJ22_comparableClassFor_1 6 rfl rfl)
theorem dJ22_comparableClassFor_32 : decode cJ22_comparableClassFor 32 = .ok (.aload 5, 2) := dk_25 5 (dk_at dksJ22_comparableClassFor_1 8 rfl rfl)
theorem dJ22_comparableClassFor_34 : decode cJ22_comparableClassFor 34 = .ok (.arraylength, 1) := dk_190 (dk_at dksJ22_comparableClassFor_1 10 rfl rfl)
theorem dJ22_comparableClassFor_35 : decode cJ22_comparableClassFor 35 = .ok (.istore 6, 2) := dk_54 6 (dk_at dksJ22_comparableClassFor_1 11 rfl rfl)
theorem dJ22_comparableClassFor_37 : decode cJ22_comparableClassFor 37 = .ok (.iconst 0, 1) := dk_3 (dk_at dksJ22_comparableClassFor_1 13 rfl rfl)
theorem dJ22_comparableClassFor_38 : decode cJ22_comparableClassFor 38 = .ok (.istore 7, 2) := dk_54 7 (dk_at dksJ22_comparableClassFor_1 14 rfl rfl)
theorem dJ22_comparableClassFor_40 : decode cJ22_comparableClassFor 40 = .ok (.iload 7, 2) := dk_21 7 (dk_at dksJ22_comparableClassFor_1 16 rfl rfl)
theorem dJ22_comparableClassFor_42 : decode cJ22_comparableClassFor 42 = .ok (.iload 6, 2) := dk_21 6 (dk_at dksJ22_comparableClassFor_1 18 rfl rfl)
theorem dJ22_comparableClassFor_44 : decode cJ22_comparableClassFor 44 = .ok (.if_icmp .ge 69, 3) := dk_162 0 69 (dk_at dksJ22_comparableClassFor_1 20 rfl rfl)
theorem dJ22_comparableClassFor_47 : decode cJ22_comparableClassFor 47 = .ok (.aload 5, 2) := dk_25 5 (dk_at dksJ22_comparableClassFor_2 0 rfl rfl)
theorem dJ22_comparableClassFor_49 : decode cJ22_comparableClassFor 49 = .ok (.iload 7, 2) := dk_21 7 (dk_at dksJ22_comparableClassFor_2 2 rfl rfl)
theorem dJ22_comparableClassFor_51 : decode cJ22_comparableClassFor 51 = .ok (.aaload, 1) := dk_50 (dk_at dksJ22_comparableClassFor_2 4 rfl rfl)
theorem dJ22_comparableClassFor_52 : decode cJ22_comparableClassFor 52 = .ok (.astore 8, 2) := dk_58 8 (dk_at dksJ22_comparableClassFor_2 5 rfl rfl)
theorem dJ22_comparableClassFor_54 : decode cJ22_comparableClassFor 54 = .ok (.aload 8, 2) := dk_25 8 (dk_at dksJ22_comparableClassFor_2 7 rfl rfl)
theorem dJ22_comparableClassFor_56 : decode cJ22_comparableClassFor 56 = .ok (.instanceof 21, 3) := dk_193 0 21 (dk_at dksJ22_comparableClassFor_2 9 rfl rfl)
theorem dJ22_comparableClassFor_59 : decode cJ22_comparableClassFor 59 = .ok (.ifCond .eq 48, 3) := dk_153 0 48 (dk_at dksJ22_comparableClassFor_2 12 rfl rfl)
theorem dJ22_comparableClassFor_62 : decode cJ22_comparableClassFor 62 = .ok (.aload 8, 2) := dk_25 8 (dk_at dksJ22_comparableClassFor_2 15 rfl rfl)
theorem dJ22_comparableClassFor_64 : decode cJ22_comparableClassFor 64 = .ok (.checkcast 21, 3) := dk_192 0 21 (dk_at dksJ22_comparableClassFor_2 17 rfl rfl)
theorem dJ22_comparableClassFor_67 : decode cJ22_comparableClassFor 67 = .ok (.dup, 1) := dk_89 (dk_at dksJ22_comparableClassFor_2 20 rfl rfl)
theorem dJ22_comparableClassFor_68 : decode cJ22_comparableClassFor 68 = .ok (.astore 4, 2) := dk_58 4 (dk_at dksJ22_comparableClassFor_2 21 rfl rfl)
theorem dJ22_comparableClassFor_70 : decode cJ22_comparableClassFor 70 = .ok (.invokeinterface 23 1, 5) := by decide +kernel
theorem dJ22_comparableClassFor_75 : decode cJ22_comparableClassFor 75 = .ok (.ldc 7, 2) := dk_18 7 (dk_at dksJ22_comparableClassFor_3 5 rfl rfl)
theorem dJ22_comparableClassFor_77 : decode cJ22_comparableClassFor 77 = .ok (.if_acmp .ne 30, 3) := dk_166 0 30 (dk_at dksJ22_comparableClassFor_3 7 rfl rfl)
theorem dJ22_comparableClassFor_80 : decode cJ22_comparableClassFor 80 = .ok (.aload 4, 2) := dk_25 4 (dk_at dksJ22_comparableClassFor_3 10 rfl rfl)
theorem dJ22_comparableClassFor_82 : decode cJ22_comparableClassFor 82 = .ok (.invokeinterface 27 1, 5) := by decide +kernel
theorem dJ22_comparableClassFor_87 : decode cJ22_comparableClassFor 87 = .ok (.dup, 1) := dk_89 (dk_at dksJ22_comparableClassFor_3 17 rfl rfl)
theorem dJ22_comparableClassFor_88 : decode cJ22_comparableClassFor 88 = .ok (.astore_n 3, 1) := dk_78 (dk_at dksJ22_comparableClassFor_3 18 rfl rfl)
theorem dJ22_comparableClassFor_89 : decode cJ22_comparableClassFor 89 = .ok (.ifnull 18, 3) := dk_198 0 18 (dk_at dksJ22_comparableClassFor_3 19 rfl rfl)
theorem dJ22_comparableClassFor_92 : decode cJ22_comparableClassFor 92 = .ok (.aload_n 3, 1) := dk_45 (dk_at dksJ22_comparableClassFor_3 22 rfl rfl)
theorem dJ22_comparableClassFor_93 : decode cJ22_comparableClassFor 93 = .ok (.arraylength, 1) := dk_190 (dk_at dksJ22_comparableClassFor_3 23 rfl rfl)
theorem dJ22_comparableClassFor_94 : decode cJ22_comparableClassFor 94 = .ok (.iconst 1, 1) := dk_4 (dk_at dksJ22_comparableClassFor_4 0 rfl rfl)
theorem dJ22_comparableClassFor_95 : decode cJ22_comparableClassFor 95 = .ok (.if_icmp .ne 12, 3) := dk_160 0 12 (dk_at dksJ22_comparableClassFor_4 1 rfl rfl)
theorem dJ22_comparableClassFor_98 : decode cJ22_comparableClassFor 98 = .ok (.aload_n 3, 1) := dk_45 (dk_at dksJ22_comparableClassFor_4 4 rfl rfl)
theorem dJ22_comparableClassFor_99 : decode cJ22_comparableClassFor 99 = .ok (.iconst 0, 1) := dk_3 (dk_at dksJ22_comparableClassFor_4 5 rfl rfl)
theorem dJ22_comparableClassFor_100 : decode cJ22_comparableClassFor 100 = .ok (.aaload, 1) := dk_50 (dk_at dksJ22_comparableClassFor_4 6 rfl rfl)
theorem dJ22_comparableClassFor_101 : decode cJ22_comparableClassFor 101 = .ok (.aload_n 1, 1) := dk_43 (dk_at dksJ22_comparableClassFor_4 7 rfl rfl)
theorem dJ22_comparableClassFor_102 : decode cJ22_comparableClassFor 102 = .ok (.if_acmp .ne 5, 3) := dk_166 0 5 (dk_at dksJ22_comparableClassFor_4 8 rfl rfl)
theorem dJ22_comparableClassFor_105 : decode cJ22_comparableClassFor 105 = .ok (.aload_n 1, 1) := dk_43 (dk_at dksJ22_comparableClassFor_4 11 rfl rfl)
theorem dJ22_comparableClassFor_106 : decode cJ22_comparableClassFor 106 = .ok (.areturn, 1) := dk_176 (dk_at dksJ22_comparableClassFor_4 12 rfl rfl)
theorem dJ22_comparableClassFor_107 : decode cJ22_comparableClassFor 107 = .ok (.iinc 7 1, 3) := dk_132 7 1 (dk_at dksJ22_comparableClassFor_4 13 rfl rfl)
theorem dJ22_comparableClassFor_110 : decode cJ22_comparableClassFor 110 = .ok (.goto (-70), 3) := dk_167 255 186 (dk_at dksJ22_comparableClassFor_4 16 rfl rfl)
theorem dJ22_comparableClassFor_113 : decode cJ22_comparableClassFor 113 = .ok (.aconst_null, 1) := dk_1 (dk_at dksJ22_comparableClassFor_4 19 rfl rfl)
theorem dJ22_comparableClassFor_114 : decode cJ22_comparableClassFor 114 = .ok (.areturn, 1) := dk_176 (dk_at dksJ22_comparableClassFor_4 20 rfl rfl)
abbrev cJ22_compareComparables : ByteArray := prog_84_method_3_code
def yJ22_compareComparables : MethodName := ⟨RJ22, "compareComparables", "(Ljava/lang/Class;Ljava/lang/Object;Ljava/lang/Object;)I"⟩
def dkwJ22_compareComparables_1 : List UInt8 := [185, 0, 30, 2, 0, 172]
abbrev dktJ22_compareComparables_1 : List UInt8 := dkwJ22_compareComparables_1 ++ []
def dkwJ22_compareComparables_0 : List UInt8 := [44, 198, 0, 11, 44, 182, 0, 9, 42, 165, 0, 7, 3, 167, 0, 13, 43, 192, 0, 7, 44]
abbrev dktJ22_compareComparables_0 : List UInt8 := dkwJ22_compareComparables_0 ++ dktJ22_compareComparables_1
theorem dksJ22_compareComparables_0 : cJ22_compareComparables.data.toList.drop 0 = dktJ22_compareComparables_0 := by decide +kernel
theorem dksJ22_compareComparables_1 : cJ22_compareComparables.data.toList.drop 21 = dktJ22_compareComparables_1 := dk_seg dksJ22_compareComparables_0 21 rfl rfl
theorem dJ22_compareComparables_0 : decode cJ22_compareComparables 0 = .ok (.aload_n 2, 1) := dk_44 (dk_at dksJ22_compareComparables_0 0 rfl rfl)
theorem dJ22_compareComparables_1 : decode cJ22_compareComparables 1 = .ok (.ifnull 11, 3) := dk_198 0 11 (dk_at dksJ22_compareComparables_0 1 rfl rfl)
theorem dJ22_compareComparables_4 : decode cJ22_compareComparables 4 = .ok (.aload_n 2, 1) := dk_44 (dk_at dksJ22_compareComparables_0 4 rfl rfl)
theorem dJ22_compareComparables_5 : decode cJ22_compareComparables 5 = .ok (.invokevirtual 9, 3) := dk_182 0 9 (dk_at dksJ22_compareComparables_0 5 rfl rfl)
theorem dJ22_compareComparables_8 : decode cJ22_compareComparables 8 = .ok (.aload_n 0, 1) := dk_42 (dk_at dksJ22_compareComparables_0 8 rfl rfl)
theorem dJ22_compareComparables_9 : decode cJ22_compareComparables 9 = .ok (.if_acmp .eq 7, 3) := dk_165 0 7 (dk_at dksJ22_compareComparables_0 9 rfl rfl)
theorem dJ22_compareComparables_12 : decode cJ22_compareComparables 12 = .ok (.iconst 0, 1) := dk_3 (dk_at dksJ22_compareComparables_0 12 rfl rfl)
theorem dJ22_compareComparables_13 : decode cJ22_compareComparables 13 = .ok (.goto 13, 3) := dk_167 0 13 (dk_at dksJ22_compareComparables_0 13 rfl rfl)
theorem dJ22_compareComparables_16 : decode cJ22_compareComparables 16 = .ok (.aload_n 1, 1) := dk_43 (dk_at dksJ22_compareComparables_0 16 rfl rfl)
theorem dJ22_compareComparables_17 : decode cJ22_compareComparables 17 = .ok (.checkcast 7, 3) := dk_192 0 7 (dk_at dksJ22_compareComparables_0 17 rfl rfl)
theorem dJ22_compareComparables_20 : decode cJ22_compareComparables 20 = .ok (.aload_n 2, 1) := dk_44 (dk_at dksJ22_compareComparables_0 20 rfl rfl)
theorem dJ22_compareComparables_21 : decode cJ22_compareComparables 21 = .ok (.invokeinterface 30 2, 5) := by decide +kernel
theorem dJ22_compareComparables_26 : decode cJ22_compareComparables 26 = .ok (.ireturn, 1) := dk_172 (dk_at dksJ22_compareComparables_1 5 rfl rfl)
abbrev cJ22_size : ByteArray := prog_84_method_10_code
def yJ22_size : MethodName := ⟨RJ22, "size", "()I"⟩
theorem dJ22_size_0 : decode cJ22_size 0 = .ok (.aload_n 0, 1) := by decide +kernel
theorem dJ22_size_1 : decode cJ22_size 1 = .ok (.getfield 156, 3) := by decide +kernel
theorem dJ22_size_4 : decode cJ22_size 4 = .ok (.ireturn, 1) := by decide +kernel
abbrev cJ22_put : ByteArray := prog_84_method_15_code
def yJ22_put : MethodName := ⟨RJ22, "put", "(Ljava/lang/Object;Ljava/lang/Object;)Ljava/lang/Object;"⟩
def dkwJ22_put_0 : List UInt8 := [42, 43, 184, 0, 149, 43, 44, 3, 4, 182, 0, 152, 176]
abbrev dktJ22_put_0 : List UInt8 := dkwJ22_put_0 ++ []
theorem dksJ22_put_0 : cJ22_put.data.toList.drop 0 = dktJ22_put_0 := by decide +kernel
theorem dJ22_put_0 : decode cJ22_put 0 = .ok (.aload_n 0, 1) := dk_42 (dk_at dksJ22_put_0 0 rfl rfl)
theorem dJ22_put_1 : decode cJ22_put 1 = .ok (.aload_n 1, 1) := dk_43 (dk_at dksJ22_put_0 1 rfl rfl)
theorem dJ22_put_2 : decode cJ22_put 2 = .ok (.invokestatic 149, 3) := dk_184 0 149 (dk_at dksJ22_put_0 2 rfl rfl)
theorem dJ22_put_5 : decode cJ22_put 5 = .ok (.aload_n 1, 1) := dk_43 (dk_at dksJ22_put_0 5 rfl rfl)
theorem dJ22_put_6 : decode cJ22_put 6 = .ok (.aload_n 2, 1) := dk_44 (dk_at dksJ22_put_0 6 rfl rfl)
theorem dJ22_put_7 : decode cJ22_put 7 = .ok (.iconst 0, 1) := dk_3 (dk_at dksJ22_put_0 7 rfl rfl)
theorem dJ22_put_8 : decode cJ22_put 8 = .ok (.iconst 1, 1) := dk_4 (dk_at dksJ22_put_0 8 rfl rfl)
theorem dJ22_put_9 : decode cJ22_put 9 = .ok (.invokevirtual 152, 3) := dk_182 0 152 (dk_at dksJ22_put_0 9 rfl rfl)
theorem dJ22_put_12 : decode cJ22_put 12 = .ok (.areturn, 1) := dk_176 (dk_at dksJ22_put_0 12 rfl rfl)
abbrev cJ22_putVal : ByteArray := prog_84_method_16_code
def yJ22_putVal : MethodName := ⟨RJ22, "putVal", "(ILjava/lang/Object;Ljava/lang/Object;ZZ)Ljava/lang/Object;"⟩
def dkwJ22_putVal_12 : List UInt8 := [181, 0, 156, 42, 180, 0, 88, 164, 0, 8, 42, 182, 0, 117, 87, 42, 21, 5, 182, 0, 205, 1, 176]
abbrev dktJ22_putVal_12 : List UInt8 := dkwJ22_putVal_12 ++ []
def dkwJ22_putVal_11 : List UInt8 := [182, 0, 198, 25, 12, 176, 42, 89, 180, 0, 202, 4, 96, 181, 0, 202, 42, 89, 180, 0, 156, 4, 96, 90]
abbrev dktJ22_putVal_11 : List UInt8 := dkwJ22_putVal_11 ++ dktJ22_putVal_12
def dkwJ22_putVal_10 : List UInt8 := [180, 0, 162, 58, 12, 21, 4, 153, 0, 8, 25, 12, 199, 0, 9, 25, 10, 45, 181, 0, 162, 42, 25, 10]
abbrev dktJ22_putVal_10 : List UInt8 := dkwJ22_putVal_10 ++ dktJ22_putVal_11
def dkwJ22_putVal_9 : List UInt8 := [153, 0, 6, 167, 0, 13, 25, 10, 58, 7, 132, 12, 1, 167, 255, 171, 25, 10, 198, 0, 35, 25, 10]
abbrev dktJ22_putVal_9 : List UInt8 := dkwJ22_putVal_9 ++ dktJ22_putVal_10
def dkwJ22_putVal_8 : List UInt8 := [25, 10, 180, 0, 170, 89, 58, 11, 44, 165, 0, 29, 44, 198, 0, 15, 44, 25, 11, 182, 0, 173]
abbrev dktJ22_putVal_8 : List UInt8 := dkwJ22_putVal_8 ++ dktJ22_putVal_9
def dkwJ22_putVal_7 : List UInt8 := [16, 7, 161, 0, 60, 42, 25, 6, 27, 182, 0, 194, 167, 0, 50, 25, 10, 180, 0, 168, 27, 160, 0, 31]
abbrev dktJ22_putVal_7 : List UInt8 := dkwJ22_putVal_7 ++ dktJ22_putVal_8
def dkwJ22_putVal_6 : List UInt8 := [180, 0, 177, 89, 58, 10, 199, 0, 33, 25, 7, 42, 27, 44, 45, 1, 182, 0, 186, 181, 0, 177, 21, 12]
abbrev dktJ22_putVal_6 : List UInt8 := dkwJ22_putVal_6 ++ dktJ22_putVal_7
def dkwJ22_putVal_5 : List UInt8 := [192, 0, 180, 42, 25, 6, 27, 44, 45, 182, 0, 190, 58, 10, 167, 0, 94, 3, 54, 12, 25, 7]
abbrev dktJ22_putVal_5 : List UInt8 := dkwJ22_putVal_5 ++ dktJ22_putVal_6
def dkwJ22_putVal_4 : List UInt8 := [182, 0, 173, 153, 0, 10, 25, 7, 58, 10, 167, 0, 121, 25, 7, 193, 0, 180, 153, 0, 22, 25, 7]
abbrev dktJ22_putVal_4 : List UInt8 := dkwJ22_putVal_4 ++ dktJ22_putVal_5
def dkwJ22_putVal_3 : List UInt8 := [160, 0, 35, 25, 7, 180, 0, 170, 89, 58, 11, 44, 165, 0, 16, 44, 198, 0, 19, 44, 25, 11]
abbrev dktJ22_putVal_3 : List UInt8 := dkwJ22_putVal_3 ++ dktJ22_putVal_4
def dkwJ22_putVal_2 : List UInt8 := [25, 6, 21, 9, 42, 27, 44, 45, 1, 182, 0, 186, 83, 167, 0, 199, 25, 7, 180, 0, 168, 27]
abbrev dktJ22_putVal_2 : List UInt8 := dkwJ22_putVal_2 ++ dktJ22_putVal_3
def dkwJ22_putVal_1 : List UInt8 := [58, 6, 190, 54, 8, 25, 6, 21, 8, 4, 100, 27, 126, 89, 54, 9, 50, 89, 58, 7, 199, 0, 19]
abbrev dktJ22_putVal_1 : List UInt8 := dkwJ22_putVal_1 ++ dktJ22_putVal_2
def dkwJ22_putVal_0 : List UInt8 := [42, 180, 0, 105, 89, 58, 6, 198, 0, 12, 25, 6, 190, 89, 54, 8, 154, 0, 13, 42, 182, 0, 117, 89]
abbrev dktJ22_putVal_0 : List UInt8 := dkwJ22_putVal_0 ++ dktJ22_putVal_1
theorem dksJ22_putVal_0 : cJ22_putVal.data.toList.drop 0 = dktJ22_putVal_0 := by decide +kernel
theorem dksJ22_putVal_1 : cJ22_putVal.data.toList.drop 24 = dktJ22_putVal_1 := dk_seg dksJ22_putVal_0 24 rfl rfl
theorem dksJ22_putVal_2 : cJ22_putVal.data.toList.drop 47 = dktJ22_putVal_2 := dk_seg dksJ22_putVal_1 23 rfl rfl
theorem dksJ22_putVal_3 : cJ22_putVal.data.toList.drop 69 = dktJ22_putVal_3 := dk_seg dksJ22_putVal_2 22 rfl rfl
theorem dksJ22_putVal_4 : cJ22_putVal.data.toList.drop 91 = dktJ22_putVal_4 := dk_seg dksJ22_putVal_3 22 rfl rfl
theorem dksJ22_putVal_5 : cJ22_putVal.data.toList.drop 114 = dktJ22_putVal_5 := dk_seg dksJ22_putVal_4 23 rfl rfl
theorem dksJ22_putVal_6 : cJ22_putVal.data.toList.drop 136 = dktJ22_putVal_6 := dk_seg dksJ22_putVal_5 22 rfl rfl
theorem dksJ22_putVal_7 : cJ22_putVal.data.toList.drop 160 = dktJ22_putVal_7 := dk_seg dksJ22_putVal_6 24 rfl rfl
theorem dksJ22_putVal_8 : cJ22_putVal.data.toList.drop 184 = dktJ22_putVal_8 := dk_seg dksJ22_putVal_7 24 rfl rfl
theorem dksJ22_putVal_9 : cJ22_putVal.data.toList.drop 206 = dktJ22_putVal_9 := dk_seg dksJ22_putVal_8 22 rfl rfl
theorem dksJ22_putVal_10 : cJ22_putVal.data.toList.drop 229 = dktJ22_putVal_10 := dk_seg dksJ22_putVal_9 23 rfl rfl
theorem dksJ22_putVal_11 : cJ22_putVal.data.toList.drop 253 = dktJ22_putVal_11 := dk_seg dksJ22_putVal_10 24 rfl rfl
theorem dksJ22_putVal_12 : cJ22_putVal.data.toList.drop 277 = dktJ22_putVal_12 := dk_seg dksJ22_putVal_11 24 rfl rfl
theorem dJ22_putVal_0 : decode cJ22_putVal 0 = .ok (.aload_n 0, 1) := dk_42 (dk_at dksJ22_putVal_0 0 rfl rfl)
theorem dJ22_putVal_1 : decode cJ22_putVal 1 = .ok (.getfield 105, 3) := dk_180 0 105 (dk_at dksJ22_putVal_0 1 rfl rfl)
theorem dJ22_putVal_4 : decode cJ22_putVal 4 = .ok (.dup, 1) := dk_89 (dk_at dksJ22_putVal_0 4 rfl rfl)
theorem dJ22_putVal_5 : decode cJ22_putVal 5 = .ok (.astore 6, 2) := dk_58 6 (dk_at dksJ22_putVal_0 5 rfl rfl)
theorem dJ22_putVal_7 : decode cJ22_putVal 7 = .ok (.ifnull 12, 3) := dk_198 0 12 (dk_at dksJ22_putVal_0 7 rfl rfl)
theorem dJ22_putVal_10 : decode cJ22_putVal 10 = .ok (.aload 6, 2) := dk_25 6 (dk_at dksJ22_putVal_0 10 rfl rfl)
theorem dJ22_putVal_12 : decode cJ22_putVal 12 = .ok (.arraylength, 1) := dk_190 (dk_at dksJ22_putVal_0 12 rfl rfl)
theorem dJ22_putVal_13 : decode cJ22_putVal 13 = .ok (.dup, 1) := dk_89 (dk_at dksJ22_putVal_0 13 rfl rfl)
theorem dJ22_putVal_14 : decode cJ22_putVal 14 = .ok (.istore 8, 2) := dk_54 8 (dk_at dksJ22_putVal_0 14 rfl rfl)
theorem dJ22_putVal_16 : decode cJ22_putVal 16 = .ok (.ifCond .ne 13, 3) := dk_154 0 13 (dk_at dksJ22_putVal_0 16 rfl rfl)
theorem dJ22_putVal_19 : decode cJ22_putVal 19 = .ok (.aload_n 0, 1) := dk_42 (dk_at dksJ22_putVal_0 19 rfl rfl)
theorem dJ22_putVal_20 : decode cJ22_putVal 20 = .ok (.invokevirtual 117, 3) := dk_182 0 117 (dk_at dksJ22_putVal_0 20 rfl rfl)
theorem dJ22_putVal_23 : decode cJ22_putVal 23 = .ok (.dup, 1) := dk_89 (dk_at dksJ22_putVal_0 23 rfl rfl)
theorem dJ22_putVal_24 : decode cJ22_putVal 24 = .ok (.astore 6, 2) := dk_58 6 (dk_at dksJ22_putVal_1 0 rfl rfl)
theorem dJ22_putVal_26 : decode cJ22_putVal 26 = .ok (.arraylength, 1) := dk_190 (dk_at dksJ22_putVal_1 2 rfl rfl)
theorem dJ22_putVal_27 : decode cJ22_putVal 27 = .ok (.istore 8, 2) := dk_54 8 (dk_at dksJ22_putVal_1 3 rfl rfl)
theorem dJ22_putVal_29 : decode cJ22_putVal 29 = .ok (.aload 6, 2) := dk_25 6 (dk_at dksJ22_putVal_1 5 rfl rfl)
theorem dJ22_putVal_31 : decode cJ22_putVal 31 = .ok (.iload 8, 2) := dk_21 8 (dk_at dksJ22_putVal_1 7 rfl rfl)
theorem dJ22_putVal_33 : decode cJ22_putVal 33 = .ok (.iconst 1, 1) := dk_4 (dk_at dksJ22_putVal_1 9 rfl rfl)
theorem dJ22_putVal_34 : decode cJ22_putVal 34 = .ok (.isub, 1) := dk_100 (dk_at dksJ22_putVal_1 10 rfl rfl)
theorem dJ22_putVal_35 : decode cJ22_putVal 35 = .ok (.iload_n 1, 1) := dk_27 (dk_at dksJ22_putVal_1 11 rfl rfl)
theorem dJ22_putVal_36 : decode cJ22_putVal 36 = .ok (.iand, 1) := dk_126 (dk_at dksJ22_putVal_1 12 rfl rfl)
theorem dJ22_putVal_37 : decode cJ22_putVal 37 = .ok (.dup, 1) := dk_89 (dk_at dksJ22_putVal_1 13 rfl rfl)
theorem dJ22_putVal_38 : decode cJ22_putVal 38 = .ok (.istore 9, 2) := dk_54 9 (dk_at dksJ22_putVal_1 14 rfl rfl)
theorem dJ22_putVal_40 : decode cJ22_putVal 40 = .ok (.aaload, 1) := dk_50 (dk_at dksJ22_putVal_1 16 rfl rfl)
theorem dJ22_putVal_41 : decode cJ22_putVal 41 = .ok (.dup, 1) := dk_89 (dk_at dksJ22_putVal_1 17 rfl rfl)
theorem dJ22_putVal_42 : decode cJ22_putVal 42 = .ok (.astore 7, 2) := dk_58 7 (dk_at dksJ22_putVal_1 18 rfl rfl)
theorem dJ22_putVal_44 : decode cJ22_putVal 44 = .ok (.ifnonnull 19, 3) := dk_199 0 19 (dk_at dksJ22_putVal_1 20 rfl rfl)
theorem dJ22_putVal_47 : decode cJ22_putVal 47 = .ok (.aload 6, 2) := dk_25 6 (dk_at dksJ22_putVal_2 0 rfl rfl)
theorem dJ22_putVal_49 : decode cJ22_putVal 49 = .ok (.iload 9, 2) := dk_21 9 (dk_at dksJ22_putVal_2 2 rfl rfl)
theorem dJ22_putVal_51 : decode cJ22_putVal 51 = .ok (.aload_n 0, 1) := dk_42 (dk_at dksJ22_putVal_2 4 rfl rfl)
theorem dJ22_putVal_52 : decode cJ22_putVal 52 = .ok (.iload_n 1, 1) := dk_27 (dk_at dksJ22_putVal_2 5 rfl rfl)
theorem dJ22_putVal_53 : decode cJ22_putVal 53 = .ok (.aload_n 2, 1) := dk_44 (dk_at dksJ22_putVal_2 6 rfl rfl)
theorem dJ22_putVal_54 : decode cJ22_putVal 54 = .ok (.aload_n 3, 1) := dk_45 (dk_at dksJ22_putVal_2 7 rfl rfl)
theorem dJ22_putVal_55 : decode cJ22_putVal 55 = .ok (.aconst_null, 1) := dk_1 (dk_at dksJ22_putVal_2 8 rfl rfl)
theorem dJ22_putVal_56 : decode cJ22_putVal 56 = .ok (.invokevirtual 186, 3) := dk_182 0 186 (dk_at dksJ22_putVal_2 9 rfl rfl)
theorem dJ22_putVal_59 : decode cJ22_putVal 59 = .ok (.aastore, 1) := dk_83 (dk_at dksJ22_putVal_2 12 rfl rfl)
theorem dJ22_putVal_60 : decode cJ22_putVal 60 = .ok (.goto 199, 3) := dk_167 0 199 (dk_at dksJ22_putVal_2 13 rfl rfl)
theorem dJ22_putVal_63 : decode cJ22_putVal 63 = .ok (.aload 7, 2) := dk_25 7 (dk_at dksJ22_putVal_2 16 rfl rfl)
theorem dJ22_putVal_65 : decode cJ22_putVal 65 = .ok (.getfield 168, 3) := dk_180 0 168 (dk_at dksJ22_putVal_2 18 rfl rfl)
theorem dJ22_putVal_68 : decode cJ22_putVal 68 = .ok (.iload_n 1, 1) := dk_27 (dk_at dksJ22_putVal_2 21 rfl rfl)
theorem dJ22_putVal_69 : decode cJ22_putVal 69 = .ok (.if_icmp .ne 35, 3) := dk_160 0 35 (dk_at dksJ22_putVal_3 0 rfl rfl)
theorem dJ22_putVal_72 : decode cJ22_putVal 72 = .ok (.aload 7, 2) := dk_25 7 (dk_at dksJ22_putVal_3 3 rfl rfl)
theorem dJ22_putVal_74 : decode cJ22_putVal 74 = .ok (.getfield 170, 3) := dk_180 0 170 (dk_at dksJ22_putVal_3 5 rfl rfl)
theorem dJ22_putVal_77 : decode cJ22_putVal 77 = .ok (.dup, 1) := dk_89 (dk_at dksJ22_putVal_3 8 rfl rfl)
theorem dJ22_putVal_78 : decode cJ22_putVal 78 = .ok (.astore 11, 2) := dk_58 11 (dk_at dksJ22_putVal_3 9 rfl rfl)
theorem dJ22_putVal_80 : decode cJ22_putVal 80 = .ok (.aload_n 2, 1) := dk_44 (dk_at dksJ22_putVal_3 11 rfl rfl)
theorem dJ22_putVal_81 : decode cJ22_putVal 81 = .ok (.if_acmp .eq 16, 3) := dk_165 0 16 (dk_at dksJ22_putVal_3 12 rfl rfl)
theorem dJ22_putVal_84 : decode cJ22_putVal 84 = .ok (.aload_n 2, 1) := dk_44 (dk_at dksJ22_putVal_3 15 rfl rfl)
theorem dJ22_putVal_85 : decode cJ22_putVal 85 = .ok (.ifnull 19, 3) := dk_198 0 19 (dk_at dksJ22_putVal_3 16 rfl rfl)
theorem dJ22_putVal_88 : decode cJ22_putVal 88 = .ok (.aload_n 2, 1) := dk_44 (dk_at dksJ22_putVal_3 19 rfl rfl)
theorem dJ22_putVal_89 : decode cJ22_putVal 89 = .ok (.aload 11, 2) := dk_25 11 (dk_at dksJ22_putVal_3 20 rfl rfl)
theorem dJ22_putVal_91 : decode cJ22_putVal 91 = .ok (.invokevirtual 173, 3) := dk_182 0 173 (dk_at dksJ22_putVal_4 0 rfl rfl)
theorem dJ22_putVal_94 : decode cJ22_putVal 94 = .ok (.ifCond .eq 10, 3) := dk_153 0 10 (dk_at dksJ22_putVal_4 3 rfl rfl)
theorem dJ22_putVal_97 : decode cJ22_putVal 97 = .ok (.aload 7, 2) := dk_25 7 (dk_at dksJ22_putVal_4 6 rfl rfl)
theorem dJ22_putVal_99 : decode cJ22_putVal 99 = .ok (.astore 10, 2) := dk_58 10 (dk_at dksJ22_putVal_4 8 rfl rfl)
theorem dJ22_putVal_101 : decode cJ22_putVal 101 = .ok (.goto 121, 3) := dk_167 0 121 (dk_at dksJ22_putVal_4 10 rfl rfl)
theorem dJ22_putVal_104 : decode cJ22_putVal 104 = .ok (.aload 7, 2) := dk_25 7 (dk_at dksJ22_putVal_4 13 rfl rfl)
theorem dJ22_putVal_106 : decode cJ22_putVal 106 = .ok (.instanceof 180, 3) := dk_193 0 180 (dk_at dksJ22_putVal_4 15 rfl rfl)
theorem dJ22_putVal_109 : decode cJ22_putVal 109 = .ok (.ifCond .eq 22, 3) := dk_153 0 22 (dk_at dksJ22_putVal_4 18 rfl rfl)
theorem dJ22_putVal_112 : decode cJ22_putVal 112 = .ok (.aload 7, 2) := dk_25 7 (dk_at dksJ22_putVal_4 21 rfl rfl)
theorem dJ22_putVal_114 : decode cJ22_putVal 114 = .ok (.checkcast 180, 3) := dk_192 0 180 (dk_at dksJ22_putVal_5 0 rfl rfl)
theorem dJ22_putVal_117 : decode cJ22_putVal 117 = .ok (.aload_n 0, 1) := dk_42 (dk_at dksJ22_putVal_5 3 rfl rfl)
theorem dJ22_putVal_118 : decode cJ22_putVal 118 = .ok (.aload 6, 2) := dk_25 6 (dk_at dksJ22_putVal_5 4 rfl rfl)
theorem dJ22_putVal_120 : decode cJ22_putVal 120 = .ok (.iload_n 1, 1) := dk_27 (dk_at dksJ22_putVal_5 6 rfl rfl)
theorem dJ22_putVal_121 : decode cJ22_putVal 121 = .ok (.aload_n 2, 1) := dk_44 (dk_at dksJ22_putVal_5 7 rfl rfl)
theorem dJ22_putVal_122 : decode cJ22_putVal 122 = .ok (.aload_n 3, 1) := dk_45 (dk_at dksJ22_putVal_5 8 rfl rfl)
theorem dJ22_putVal_123 : decode cJ22_putVal 123 = .ok (.invokevirtual 190, 3) := dk_182 0 190 (dk_at dksJ22_putVal_5 9 rfl rfl)
theorem dJ22_putVal_126 : decode cJ22_putVal 126 = .ok (.astore 10, 2) := dk_58 10 (dk_at dksJ22_putVal_5 12 rfl rfl)
theorem dJ22_putVal_128 : decode cJ22_putVal 128 = .ok (.goto 94, 3) := dk_167 0 94 (dk_at dksJ22_putVal_5 14 rfl rfl)
theorem dJ22_putVal_131 : decode cJ22_putVal 131 = .ok (.iconst 0, 1) := dk_3 (dk_at dksJ22_putVal_5 17 rfl rfl)
theorem dJ22_putVal_132 : decode cJ22_putVal 132 = .ok (.istore 12, 2) := dk_54 12 (dk_at dksJ22_putVal_5 18 rfl rfl)
theorem dJ22_putVal_134 : decode cJ22_putVal 134 = .ok (.aload 7, 2) := dk_25 7 (dk_at dksJ22_putVal_5 20 rfl rfl)
theorem dJ22_putVal_136 : decode cJ22_putVal 136 = .ok (.getfield 177, 3) := dk_180 0 177 (dk_at dksJ22_putVal_6 0 rfl rfl)
theorem dJ22_putVal_139 : decode cJ22_putVal 139 = .ok (.dup, 1) := dk_89 (dk_at dksJ22_putVal_6 3 rfl rfl)
theorem dJ22_putVal_140 : decode cJ22_putVal 140 = .ok (.astore 10, 2) := dk_58 10 (dk_at dksJ22_putVal_6 4 rfl rfl)
theorem dJ22_putVal_142 : decode cJ22_putVal 142 = .ok (.ifnonnull 33, 3) := dk_199 0 33 (dk_at dksJ22_putVal_6 6 rfl rfl)
theorem dJ22_putVal_145 : decode cJ22_putVal 145 = .ok (.aload 7, 2) := dk_25 7 (dk_at dksJ22_putVal_6 9 rfl rfl)
theorem dJ22_putVal_147 : decode cJ22_putVal 147 = .ok (.aload_n 0, 1) := dk_42 (dk_at dksJ22_putVal_6 11 rfl rfl)
theorem dJ22_putVal_148 : decode cJ22_putVal 148 = .ok (.iload_n 1, 1) := dk_27 (dk_at dksJ22_putVal_6 12 rfl rfl)
theorem dJ22_putVal_149 : decode cJ22_putVal 149 = .ok (.aload_n 2, 1) := dk_44 (dk_at dksJ22_putVal_6 13 rfl rfl)
theorem dJ22_putVal_150 : decode cJ22_putVal 150 = .ok (.aload_n 3, 1) := dk_45 (dk_at dksJ22_putVal_6 14 rfl rfl)
theorem dJ22_putVal_151 : decode cJ22_putVal 151 = .ok (.aconst_null, 1) := dk_1 (dk_at dksJ22_putVal_6 15 rfl rfl)
theorem dJ22_putVal_152 : decode cJ22_putVal 152 = .ok (.invokevirtual 186, 3) := dk_182 0 186 (dk_at dksJ22_putVal_6 16 rfl rfl)
theorem dJ22_putVal_155 : decode cJ22_putVal 155 = .ok (.putfield 177, 3) := dk_181 0 177 (dk_at dksJ22_putVal_6 19 rfl rfl)
theorem dJ22_putVal_158 : decode cJ22_putVal 158 = .ok (.iload 12, 2) := dk_21 12 (dk_at dksJ22_putVal_6 22 rfl rfl)
theorem dJ22_putVal_160 : decode cJ22_putVal 160 = .ok (.bipush 7, 2) := dk_16 7 (dk_at dksJ22_putVal_7 0 rfl rfl)
theorem dJ22_putVal_162 : decode cJ22_putVal 162 = .ok (.if_icmp .lt 60, 3) := dk_161 0 60 (dk_at dksJ22_putVal_7 2 rfl rfl)
theorem dJ22_putVal_165 : decode cJ22_putVal 165 = .ok (.aload_n 0, 1) := dk_42 (dk_at dksJ22_putVal_7 5 rfl rfl)
theorem dJ22_putVal_166 : decode cJ22_putVal 166 = .ok (.aload 6, 2) := dk_25 6 (dk_at dksJ22_putVal_7 6 rfl rfl)
theorem dJ22_putVal_168 : decode cJ22_putVal 168 = .ok (.iload_n 1, 1) := dk_27 (dk_at dksJ22_putVal_7 8 rfl rfl)
theorem dJ22_putVal_169 : decode cJ22_putVal 169 = .ok (.invokevirtual 194, 3) := dk_182 0 194 (dk_at dksJ22_putVal_7 9 rfl rfl)
theorem dJ22_putVal_172 : decode cJ22_putVal 172 = .ok (.goto 50, 3) := dk_167 0 50 (dk_at dksJ22_putVal_7 12 rfl rfl)
theorem dJ22_putVal_175 : decode cJ22_putVal 175 = .ok (.aload 10, 2) := dk_25 10 (dk_at dksJ22_putVal_7 15 rfl rfl)
theorem dJ22_putVal_177 : decode cJ22_putVal 177 = .ok (.getfield 168, 3) := dk_180 0 168 (dk_at dksJ22_putVal_7 17 rfl rfl)
theorem dJ22_putVal_180 : decode cJ22_putVal 180 = .ok (.iload_n 1, 1) := dk_27 (dk_at dksJ22_putVal_7 20 rfl rfl)
theorem dJ22_putVal_181 : decode cJ22_putVal 181 = .ok (.if_icmp .ne 31, 3) := dk_160 0 31 (dk_at dksJ22_putVal_7 21 rfl rfl)
theorem dJ22_putVal_184 : decode cJ22_putVal 184 = .ok (.aload 10, 2) := dk_25 10 (dk_at dksJ22_putVal_8 0 rfl rfl)
theorem dJ22_putVal_186 : decode cJ22_putVal 186 = .ok (.getfield 170, 3) := dk_180 0 170 (dk_at dksJ22_putVal_8 2 rfl rfl)
theorem dJ22_putVal_189 : decode cJ22_putVal 189 = .ok (.dup, 1) := dk_89 (dk_at dksJ22_putVal_8 5 rfl rfl)
theorem dJ22_putVal_190 : decode cJ22_putVal 190 = .ok (.astore 11, 2) := dk_58 11 (dk_at dksJ22_putVal_8 6 rfl rfl)
theorem dJ22_putVal_192 : decode cJ22_putVal 192 = .ok (.aload_n 2, 1) := dk_44 (dk_at dksJ22_putVal_8 8 rfl rfl)
theorem dJ22_putVal_193 : decode cJ22_putVal 193 = .ok (.if_acmp .eq 29, 3) := dk_165 0 29 (dk_at dksJ22_putVal_8 9 rfl rfl)
theorem dJ22_putVal_196 : decode cJ22_putVal 196 = .ok (.aload_n 2, 1) := dk_44 (dk_at dksJ22_putVal_8 12 rfl rfl)
theorem dJ22_putVal_197 : decode cJ22_putVal 197 = .ok (.ifnull 15, 3) := dk_198 0 15 (dk_at dksJ22_putVal_8 13 rfl rfl)
theorem dJ22_putVal_200 : decode cJ22_putVal 200 = .ok (.aload_n 2, 1) := dk_44 (dk_at dksJ22_putVal_8 16 rfl rfl)
theorem dJ22_putVal_201 : decode cJ22_putVal 201 = .ok (.aload 11, 2) := dk_25 11 (dk_at dksJ22_putVal_8 17 rfl rfl)
theorem dJ22_putVal_203 : decode cJ22_putVal 203 = .ok (.invokevirtual 173, 3) := dk_182 0 173 (dk_at dksJ22_putVal_8 19 rfl rfl)
theorem dJ22_putVal_206 : decode cJ22_putVal 206 = .ok (.ifCond .eq 6, 3) := dk_153 0 6 (dk_at dksJ22_putVal_9 0 rfl rfl)
theorem dJ22_putVal_209 : decode cJ22_putVal 209 = .ok (.goto 13, 3) := dk_167 0 13 (dk_at dksJ22_putVal_9 3 rfl rfl)
theorem dJ22_putVal_212 : decode cJ22_putVal 212 = .ok (.aload 10, 2) := dk_25 10 (dk_at dksJ22_putVal_9 6 rfl rfl)
theorem dJ22_putVal_214 : decode cJ22_putVal 214 = .ok (.astore 7, 2) := dk_58 7 (dk_at dksJ22_putVal_9 8 rfl rfl)
theorem dJ22_putVal_216 : decode cJ22_putVal 216 = .ok (.iinc 12 1, 3) := dk_132 12 1 (dk_at dksJ22_putVal_9 10 rfl rfl)
theorem dJ22_putVal_219 : decode cJ22_putVal 219 = .ok (.goto (-85), 3) := dk_167 255 171 (dk_at dksJ22_putVal_9 13 rfl rfl)
theorem dJ22_putVal_222 : decode cJ22_putVal 222 = .ok (.aload 10, 2) := dk_25 10 (dk_at dksJ22_putVal_9 16 rfl rfl)
theorem dJ22_putVal_224 : decode cJ22_putVal 224 = .ok (.ifnull 35, 3) := dk_198 0 35 (dk_at dksJ22_putVal_9 18 rfl rfl)
theorem dJ22_putVal_227 : decode cJ22_putVal 227 = .ok (.aload 10, 2) := dk_25 10 (dk_at dksJ22_putVal_9 21 rfl rfl)
theorem dJ22_putVal_229 : decode cJ22_putVal 229 = .ok (.getfield 162, 3) := dk_180 0 162 (dk_at dksJ22_putVal_10 0 rfl rfl)
theorem dJ22_putVal_232 : decode cJ22_putVal 232 = .ok (.astore 12, 2) := dk_58 12 (dk_at dksJ22_putVal_10 3 rfl rfl)
theorem dJ22_putVal_234 : decode cJ22_putVal 234 = .ok (.iload 4, 2) := dk_21 4 (dk_at dksJ22_putVal_10 5 rfl rfl)
theorem dJ22_putVal_236 : decode cJ22_putVal 236 = .ok (.ifCond .eq 8, 3) := dk_153 0 8 (dk_at dksJ22_putVal_10 7 rfl rfl)
theorem dJ22_putVal_239 : decode cJ22_putVal 239 = .ok (.aload 12, 2) := dk_25 12 (dk_at dksJ22_putVal_10 10 rfl rfl)
theorem dJ22_putVal_241 : decode cJ22_putVal 241 = .ok (.ifnonnull 9, 3) := dk_199 0 9 (dk_at dksJ22_putVal_10 12 rfl rfl)
theorem dJ22_putVal_244 : decode cJ22_putVal 244 = .ok (.aload 10, 2) := dk_25 10 (dk_at dksJ22_putVal_10 15 rfl rfl)
theorem dJ22_putVal_246 : decode cJ22_putVal 246 = .ok (.aload_n 3, 1) := dk_45 (dk_at dksJ22_putVal_10 17 rfl rfl)
theorem dJ22_putVal_247 : decode cJ22_putVal 247 = .ok (.putfield 162, 3) := dk_181 0 162 (dk_at dksJ22_putVal_10 18 rfl rfl)
theorem dJ22_putVal_250 : decode cJ22_putVal 250 = .ok (.aload_n 0, 1) := dk_42 (dk_at dksJ22_putVal_10 21 rfl rfl)
theorem dJ22_putVal_251 : decode cJ22_putVal 251 = .ok (.aload 10, 2) := dk_25 10 (dk_at dksJ22_putVal_10 22 rfl rfl)
theorem dJ22_putVal_253 : decode cJ22_putVal 253 = .ok (.invokevirtual 198, 3) := dk_182 0 198 (dk_at dksJ22_putVal_11 0 rfl rfl)
theorem dJ22_putVal_256 : decode cJ22_putVal 256 = .ok (.aload 12, 2) := dk_25 12 (dk_at dksJ22_putVal_11 3 rfl rfl)
theorem dJ22_putVal_258 : decode cJ22_putVal 258 = .ok (.areturn, 1) := dk_176 (dk_at dksJ22_putVal_11 5 rfl rfl)
theorem dJ22_putVal_259 : decode cJ22_putVal 259 = .ok (.aload_n 0, 1) := dk_42 (dk_at dksJ22_putVal_11 6 rfl rfl)
theorem dJ22_putVal_260 : decode cJ22_putVal 260 = .ok (.dup, 1) := dk_89 (dk_at dksJ22_putVal_11 7 rfl rfl)
theorem dJ22_putVal_261 : decode cJ22_putVal 261 = .ok (.getfield 202, 3) := dk_180 0 202 (dk_at dksJ22_putVal_11 8 rfl rfl)
theorem dJ22_putVal_264 : decode cJ22_putVal 264 = .ok (.iconst 1, 1) := dk_4 (dk_at dksJ22_putVal_11 11 rfl rfl)
theorem dJ22_putVal_265 : decode cJ22_putVal 265 = .ok (.iadd, 1) := dk_96 (dk_at dksJ22_putVal_11 12 rfl rfl)
theorem dJ22_putVal_266 : decode cJ22_putVal 266 = .ok (.putfield 202, 3) := dk_181 0 202 (dk_at dksJ22_putVal_11 13 rfl rfl)
theorem dJ22_putVal_269 : decode cJ22_putVal 269 = .ok (.aload_n 0, 1) := dk_42 (dk_at dksJ22_putVal_11 16 rfl rfl)
theorem dJ22_putVal_270 : decode cJ22_putVal 270 = .ok (.dup, 1) := dk_89 (dk_at dksJ22_putVal_11 17 rfl rfl)
theorem dJ22_putVal_271 : decode cJ22_putVal 271 = .ok (.getfield 156, 3) := dk_180 0 156 (dk_at dksJ22_putVal_11 18 rfl rfl)
theorem dJ22_putVal_274 : decode cJ22_putVal 274 = .ok (.iconst 1, 1) := dk_4 (dk_at dksJ22_putVal_11 21 rfl rfl)
theorem dJ22_putVal_275 : decode cJ22_putVal 275 = .ok (.iadd, 1) := dk_96 (dk_at dksJ22_putVal_11 22 rfl rfl)
theorem dJ22_putVal_276 : decode cJ22_putVal 276 = .ok (.dup_x1, 1) := dk_90 (dk_at dksJ22_putVal_11 23 rfl rfl)
theorem dJ22_putVal_277 : decode cJ22_putVal 277 = .ok (.putfield 156, 3) := dk_181 0 156 (dk_at dksJ22_putVal_12 0 rfl rfl)
theorem dJ22_putVal_280 : decode cJ22_putVal 280 = .ok (.aload_n 0, 1) := dk_42 (dk_at dksJ22_putVal_12 3 rfl rfl)
theorem dJ22_putVal_281 : decode cJ22_putVal 281 = .ok (.getfield 88, 3) := dk_180 0 88 (dk_at dksJ22_putVal_12 4 rfl rfl)
theorem dJ22_putVal_284 : decode cJ22_putVal 284 = .ok (.if_icmp .le 8, 3) := dk_164 0 8 (dk_at dksJ22_putVal_12 7 rfl rfl)
theorem dJ22_putVal_287 : decode cJ22_putVal 287 = .ok (.aload_n 0, 1) := dk_42 (dk_at dksJ22_putVal_12 10 rfl rfl)
theorem dJ22_putVal_288 : decode cJ22_putVal 288 = .ok (.invokevirtual 117, 3) := dk_182 0 117 (dk_at dksJ22_putVal_12 11 rfl rfl)
theorem dJ22_putVal_291 : decode cJ22_putVal 291 = .ok (.pop, 1) := dk_87 (dk_at dksJ22_putVal_12 14 rfl rfl)
theorem dJ22_putVal_292 : decode cJ22_putVal 292 = .ok (.aload_n 0, 1) := dk_42 (dk_at dksJ22_putVal_12 15 rfl rfl)
theorem dJ22_putVal_293 : decode cJ22_putVal 293 = .ok (.iload 5, 2) := dk_21 5 (dk_at dksJ22_putVal_12 16 rfl rfl)
theorem dJ22_putVal_295 : decode cJ22_putVal 295 = .ok (.invokevirtual 205, 3) := dk_182 0 205 (dk_at dksJ22_putVal_12 18 rfl rfl)
theorem dJ22_putVal_298 : decode cJ22_putVal 298 = .ok (.aconst_null, 1) := dk_1 (dk_at dksJ22_putVal_12 21 rfl rfl)
theorem dJ22_putVal_299 : decode cJ22_putVal 299 = .ok (.areturn, 1) := dk_176 (dk_at dksJ22_putVal_12 22 rfl rfl)
abbrev cJ22_resize : ByteArray := prog_84_method_17_code
def yJ22_resize : MethodName := ⟨RJ22, "resize", "()[Ljava/util/HashMap$Node;"⟩
def dkwJ22_resize_15 : List UInt8 := [25, 6, 176]
abbrev dktJ22_resize_15 : List UInt8 := dkwJ22_resize_15 ++ []
def dkwJ22_resize_14 : List UInt8 := [198, 0, 18, 25, 12, 1, 181, 0, 177, 25, 6, 21, 7, 28, 96, 25, 11, 83, 132, 7, 1, 167, 255, 57]
abbrev dktJ22_resize_14 : List UInt8 := dkwJ22_resize_14 ++ dktJ22_resize_15
def dkwJ22_resize_13 : List UInt8 := [199, 255, 185, 25, 10, 198, 0, 16, 25, 10, 1, 181, 0, 177, 25, 6, 21, 7, 25, 9, 83, 25, 12]
abbrev dktJ22_resize_13 : List UInt8 := dkwJ22_resize_13 ++ dktJ22_resize_14
def dkwJ22_resize_12 : List UInt8 := [25, 8, 58, 11, 167, 0, 10, 25, 12, 25, 8, 181, 0, 177, 25, 8, 58, 12, 25, 13, 89, 58, 8]
abbrev dktJ22_resize_12 : List UInt8 := dkwJ22_resize_12 ++ dktJ22_resize_13
def dkwJ22_resize_11 : List UInt8 := [58, 9, 167, 0, 10, 25, 10, 25, 8, 181, 0, 177, 25, 8, 58, 10, 167, 0, 26, 25, 12, 199, 0, 10]
abbrev dktJ22_resize_11 : List UInt8 := dkwJ22_resize_11 ++ dktJ22_resize_12
def dkwJ22_resize_10 : List UInt8 := [25, 8, 180, 0, 177, 58, 13, 25, 8, 180, 0, 168, 28, 126, 154, 0, 29, 25, 10, 199, 0, 10, 25, 8]
abbrev dktJ22_resize_10 : List UInt8 := dkwJ22_resize_10 ++ dktJ22_resize_11
def dkwJ22_resize_9 : List UInt8 := [42, 25, 6, 21, 7, 28, 182, 0, 211, 167, 0, 127, 1, 58, 9, 1, 58, 10, 1, 58, 11, 1, 58, 12]
abbrev dktJ22_resize_9 : List UInt8 := dkwJ22_resize_9 ++ dktJ22_resize_10
def dkwJ22_resize_8 : List UInt8 := [21, 4, 4, 100, 126, 25, 8, 83, 167, 0, 152, 25, 8, 193, 0, 180, 153, 0, 20, 25, 8, 192, 0, 180]
abbrev dktJ22_resize_8 : List UInt8 := dkwJ22_resize_8 ++ dktJ22_resize_9
def dkwJ22_resize_7 : List UInt8 := [198, 0, 183, 43, 21, 7, 1, 83, 25, 8, 180, 0, 177, 199, 0, 21, 25, 6, 25, 8, 180, 0, 168]
abbrev dktJ22_resize_7 : List UInt8 := dkwJ22_resize_7 ++ dktJ22_resize_8
def dkwJ22_resize_6 : List UInt8 := [181, 0, 105, 43, 198, 0, 208, 3, 54, 7, 21, 7, 28, 162, 0, 199, 43, 21, 7, 50, 89, 58, 8]
abbrev dktJ22_resize_6 : List UInt8 := dkwJ22_resize_6 ++ dktJ22_resize_7
def dkwJ22_resize_5 : List UInt8 := [167, 0, 5, 18, 209, 54, 5, 42, 21, 5, 181, 0, 88, 21, 4, 189, 0, 163, 58, 6, 42, 25, 6]
abbrev dktJ22_resize_5 : List UInt8 := dkwJ22_resize_5 ++ dktJ22_resize_6
def dkwJ22_resize_4 : List UInt8 := [180, 0, 81, 106, 56, 6, 21, 4, 18, 42, 162, 0, 17, 23, 6, 18, 210, 150, 156, 0, 9, 23, 6, 139]
abbrev dktJ22_resize_4 : List UInt8 := dkwJ22_resize_4 ++ dktJ22_resize_5
def dkwJ22_resize_3 : List UInt8 := [54, 4, 167, 0, 11, 16, 16, 54, 4, 16, 12, 54, 5, 21, 5, 154, 0, 38, 21, 4, 134, 42]
abbrev dktJ22_resize_3 : List UInt8 := dkwJ22_resize_3 ++ dktJ22_resize_4
def dkwJ22_resize_2 : List UInt8 := [18, 42, 162, 0, 35, 28, 16, 16, 161, 0, 29, 29, 4, 120, 54, 5, 167, 0, 21, 29, 158, 0, 9, 29]
abbrev dktJ22_resize_2 : List UInt8 := dkwJ22_resize_2 ++ dktJ22_resize_3
def dkwJ22_resize_1 : List UInt8 := [28, 158, 0, 42, 28, 18, 42, 161, 0, 11, 42, 18, 209, 181, 0, 88, 43, 176, 28, 4, 120, 89, 54, 4]
abbrev dktJ22_resize_1 : List UInt8 := dkwJ22_resize_1 ++ dktJ22_resize_2
def dkwJ22_resize_0 : List UInt8 := [42, 180, 0, 105, 76, 43, 199, 0, 7, 3, 167, 0, 5, 43, 190, 61, 42, 180, 0, 88, 62, 3, 54, 5]
abbrev dktJ22_resize_0 : List UInt8 := dkwJ22_resize_0 ++ dktJ22_resize_1
theorem dksJ22_resize_0 : cJ22_resize.data.toList.drop 0 = dktJ22_resize_0 := by decide +kernel
theorem dksJ22_resize_1 : cJ22_resize.data.toList.drop 24 = dktJ22_resize_1 := dk_seg dksJ22_resize_0 24 rfl rfl
theorem dksJ22_resize_2 : cJ22_resize.data.toList.drop 48 = dktJ22_resize_2 := dk_seg dksJ22_resize_1 24 rfl rfl
theorem dksJ22_resize_3 : cJ22_resize.data.toList.drop 72 = dktJ22_resize_3 := dk_seg dksJ22_resize_2 24 rfl rfl
theorem dksJ22_resize_4 : cJ22_resize.data.toList.drop 94 = dktJ22_resize_4 := dk_seg dksJ22_resize_3 22 rfl rfl
theorem dksJ22_resize_5 : cJ22_resize.data.toList.drop 118 = dktJ22_resize_5 := dk_seg dksJ22_resize_4 24 rfl rfl
theorem dksJ22_resize_6 : cJ22_resize.data.toList.drop 141 = dktJ22_resize_6 := dk_seg dksJ22_resize_5 23 rfl rfl
theorem dksJ22_resize_7 : cJ22_resize.data.toList.drop 164 = dktJ22_resize_7 := dk_seg dksJ22_resize_6 23 rfl rfl
theorem dksJ22_resize_8 : cJ22_resize.data.toList.drop 187 = dktJ22_resize_8 := dk_seg dksJ22_resize_7 23 rfl rfl
theorem dksJ22_resize_9 : cJ22_resize.data.toList.drop 211 = dktJ22_resize_9 := dk_seg dksJ22_resize_8 24 rfl rfl
theorem dksJ22_resize_10 : cJ22_resize.data.toList.drop 235 = dktJ22_resize_10 := dk_seg dksJ22_resize_9 24 rfl rfl
theorem dksJ22_resize_11 : cJ22_resize.data.toList.drop 259 = dktJ22_resize_11 := dk_seg dksJ22_resize_10 24 rfl rfl
theorem dksJ22_resize_12 : cJ22_resize.data.toList.drop 283 = dktJ22_resize_12 := dk_seg dksJ22_resize_11 24 rfl rfl
theorem dksJ22_resize_13 : cJ22_resize.data.toList.drop 306 = dktJ22_resize_13 := dk_seg dksJ22_resize_12 23 rfl rfl
theorem dksJ22_resize_14 : cJ22_resize.data.toList.drop 329 = dktJ22_resize_14 := dk_seg dksJ22_resize_13 23 rfl rfl
theorem dksJ22_resize_15 : cJ22_resize.data.toList.drop 353 = dktJ22_resize_15 := dk_seg dksJ22_resize_14 24 rfl rfl
theorem dJ22_resize_0 : decode cJ22_resize 0 = .ok (.aload_n 0, 1) := dk_42 (dk_at dksJ22_resize_0 0 rfl rfl)
theorem dJ22_resize_1 : decode cJ22_resize 1 = .ok (.getfield 105, 3) := dk_180 0 105 (dk_at dksJ22_resize_0 1 rfl rfl)
theorem dJ22_resize_4 : decode cJ22_resize 4 = .ok (.astore_n 1, 1) := dk_76 (dk_at dksJ22_resize_0 4 rfl rfl)
theorem dJ22_resize_5 : decode cJ22_resize 5 = .ok (.aload_n 1, 1) := dk_43 (dk_at dksJ22_resize_0 5 rfl rfl)
theorem dJ22_resize_6 : decode cJ22_resize 6 = .ok (.ifnonnull 7, 3) := dk_199 0 7 (dk_at dksJ22_resize_0 6 rfl rfl)
theorem dJ22_resize_9 : decode cJ22_resize 9 = .ok (.iconst 0, 1) := dk_3 (dk_at dksJ22_resize_0 9 rfl rfl)
theorem dJ22_resize_10 : decode cJ22_resize 10 = .ok (.goto 5, 3) := dk_167 0 5 (dk_at dksJ22_resize_0 10 rfl rfl)
theorem dJ22_resize_13 : decode cJ22_resize 13 = .ok (.aload_n 1, 1) := dk_43 (dk_at dksJ22_resize_0 13 rfl rfl)
theorem dJ22_resize_14 : decode cJ22_resize 14 = .ok (.arraylength, 1) := dk_190 (dk_at dksJ22_resize_0 14 rfl rfl)
theorem dJ22_resize_15 : decode cJ22_resize 15 = .ok (.istore_n 2, 1) := dk_61 (dk_at dksJ22_resize_0 15 rfl rfl)
theorem dJ22_resize_16 : decode cJ22_resize 16 = .ok (.aload_n 0, 1) := dk_42 (dk_at dksJ22_resize_0 16 rfl rfl)
theorem dJ22_resize_17 : decode cJ22_resize 17 = .ok (.getfield 88, 3) := dk_180 0 88 (dk_at dksJ22_resize_0 17 rfl rfl)
theorem dJ22_resize_20 : decode cJ22_resize 20 = .ok (.istore_n 3, 1) := dk_62 (dk_at dksJ22_resize_0 20 rfl rfl)
theorem dJ22_resize_21 : decode cJ22_resize 21 = .ok (.iconst 0, 1) := dk_3 (dk_at dksJ22_resize_0 21 rfl rfl)
theorem dJ22_resize_22 : decode cJ22_resize 22 = .ok (.istore 5, 2) := dk_54 5 (dk_at dksJ22_resize_0 22 rfl rfl)
theorem dJ22_resize_24 : decode cJ22_resize 24 = .ok (.iload_n 2, 1) := dk_28 (dk_at dksJ22_resize_1 0 rfl rfl)
theorem dJ22_resize_25 : decode cJ22_resize 25 = .ok (.ifCond .le 42, 3) := dk_158 0 42 (dk_at dksJ22_resize_1 1 rfl rfl)
theorem dJ22_resize_28 : decode cJ22_resize 28 = .ok (.iload_n 2, 1) := dk_28 (dk_at dksJ22_resize_1 4 rfl rfl)
theorem dJ22_resize_29 : decode cJ22_resize 29 = .ok (.ldc 42, 2) := dk_18 42 (dk_at dksJ22_resize_1 5 rfl rfl)
theorem dJ22_resize_31 : decode cJ22_resize 31 = .ok (.if_icmp .lt 11, 3) := dk_161 0 11 (dk_at dksJ22_resize_1 7 rfl rfl)
theorem dJ22_resize_34 : decode cJ22_resize 34 = .ok (.aload_n 0, 1) := dk_42 (dk_at dksJ22_resize_1 10 rfl rfl)
theorem dJ22_resize_35 : decode cJ22_resize 35 = .ok (.ldc 209, 2) := dk_18 209 (dk_at dksJ22_resize_1 11 rfl rfl)
theorem dJ22_resize_37 : decode cJ22_resize 37 = .ok (.putfield 88, 3) := dk_181 0 88 (dk_at dksJ22_resize_1 13 rfl rfl)
theorem dJ22_resize_40 : decode cJ22_resize 40 = .ok (.aload_n 1, 1) := dk_43 (dk_at dksJ22_resize_1 16 rfl rfl)
theorem dJ22_resize_41 : decode cJ22_resize 41 = .ok (.areturn, 1) := dk_176 (dk_at dksJ22_resize_1 17 rfl rfl)
theorem dJ22_resize_42 : decode cJ22_resize 42 = .ok (.iload_n 2, 1) := dk_28 (dk_at dksJ22_resize_1 18 rfl rfl)
theorem dJ22_resize_43 : decode cJ22_resize 43 = .ok (.iconst 1, 1) := dk_4 (dk_at dksJ22_resize_1 19 rfl rfl)
theorem dJ22_resize_44 : decode cJ22_resize 44 = .ok (.ishl, 1) := dk_120 (dk_at dksJ22_resize_1 20 rfl rfl)
theorem dJ22_resize_45 : decode cJ22_resize 45 = .ok (.dup, 1) := dk_89 (dk_at dksJ22_resize_1 21 rfl rfl)
theorem dJ22_resize_46 : decode cJ22_resize 46 = .ok (.istore 4, 2) := dk_54 4 (dk_at dksJ22_resize_1 22 rfl rfl)
theorem dJ22_resize_48 : decode cJ22_resize 48 = .ok (.ldc 42, 2) := dk_18 42 (dk_at dksJ22_resize_2 0 rfl rfl)
theorem dJ22_resize_50 : decode cJ22_resize 50 = .ok (.if_icmp .ge 35, 3) := dk_162 0 35 (dk_at dksJ22_resize_2 2 rfl rfl)
theorem dJ22_resize_53 : decode cJ22_resize 53 = .ok (.iload_n 2, 1) := dk_28 (dk_at dksJ22_resize_2 5 rfl rfl)
theorem dJ22_resize_54 : decode cJ22_resize 54 = .ok (.bipush 16, 2) := dk_16 16 (dk_at dksJ22_resize_2 6 rfl rfl)
theorem dJ22_resize_56 : decode cJ22_resize 56 = .ok (.if_icmp .lt 29, 3) := dk_161 0 29 (dk_at dksJ22_resize_2 8 rfl rfl)
theorem dJ22_resize_59 : decode cJ22_resize 59 = .ok (.iload_n 3, 1) := dk_29 (dk_at dksJ22_resize_2 11 rfl rfl)
theorem dJ22_resize_60 : decode cJ22_resize 60 = .ok (.iconst 1, 1) := dk_4 (dk_at dksJ22_resize_2 12 rfl rfl)
theorem dJ22_resize_61 : decode cJ22_resize 61 = .ok (.ishl, 1) := dk_120 (dk_at dksJ22_resize_2 13 rfl rfl)
theorem dJ22_resize_62 : decode cJ22_resize 62 = .ok (.istore 5, 2) := dk_54 5 (dk_at dksJ22_resize_2 14 rfl rfl)
theorem dJ22_resize_64 : decode cJ22_resize 64 = .ok (.goto 21, 3) := dk_167 0 21 (dk_at dksJ22_resize_2 16 rfl rfl)
theorem dJ22_resize_67 : decode cJ22_resize 67 = .ok (.iload_n 3, 1) := dk_29 (dk_at dksJ22_resize_2 19 rfl rfl)
theorem dJ22_resize_68 : decode cJ22_resize 68 = .ok (.ifCond .le 9, 3) := dk_158 0 9 (dk_at dksJ22_resize_2 20 rfl rfl)
theorem dJ22_resize_71 : decode cJ22_resize 71 = .ok (.iload_n 3, 1) := dk_29 (dk_at dksJ22_resize_2 23 rfl rfl)
theorem dJ22_resize_72 : decode cJ22_resize 72 = .ok (.istore 4, 2) := dk_54 4 (dk_at dksJ22_resize_3 0 rfl rfl)
theorem dJ22_resize_74 : decode cJ22_resize 74 = .ok (.goto 11, 3) := dk_167 0 11 (dk_at dksJ22_resize_3 2 rfl rfl)
theorem dJ22_resize_77 : decode cJ22_resize 77 = .ok (.bipush 16, 2) := dk_16 16 (dk_at dksJ22_resize_3 5 rfl rfl)
theorem dJ22_resize_79 : decode cJ22_resize 79 = .ok (.istore 4, 2) := dk_54 4 (dk_at dksJ22_resize_3 7 rfl rfl)
theorem dJ22_resize_81 : decode cJ22_resize 81 = .ok (.bipush 12, 2) := dk_16 12 (dk_at dksJ22_resize_3 9 rfl rfl)
theorem dJ22_resize_83 : decode cJ22_resize 83 = .ok (.istore 5, 2) := dk_54 5 (dk_at dksJ22_resize_3 11 rfl rfl)
theorem dJ22_resize_85 : decode cJ22_resize 85 = .ok (.iload 5, 2) := dk_21 5 (dk_at dksJ22_resize_3 13 rfl rfl)
theorem dJ22_resize_87 : decode cJ22_resize 87 = .ok (.ifCond .ne 38, 3) := dk_154 0 38 (dk_at dksJ22_resize_3 15 rfl rfl)
theorem dJ22_resize_90 : decode cJ22_resize 90 = .ok (.iload 4, 2) := dk_21 4 (dk_at dksJ22_resize_3 18 rfl rfl)
theorem dJ22_resize_92 : decode cJ22_resize 92 = .ok (.i2f, 1) := dk_134 (dk_at dksJ22_resize_3 20 rfl rfl)
theorem dJ22_resize_93 : decode cJ22_resize 93 = .ok (.aload_n 0, 1) := dk_42 (dk_at dksJ22_resize_3 21 rfl rfl)
theorem dJ22_resize_94 : decode cJ22_resize 94 = .ok (.getfield 81, 3) := dk_180 0 81 (dk_at dksJ22_resize_4 0 rfl rfl)
theorem dJ22_resize_97 : decode cJ22_resize 97 = .ok (.fmul, 1) := dk_106 (dk_at dksJ22_resize_4 3 rfl rfl)
theorem dJ22_resize_98 : decode cJ22_resize 98 = .ok (.fstore 6, 2) := dk_56 6 (dk_at dksJ22_resize_4 4 rfl rfl)
theorem dJ22_resize_100 : decode cJ22_resize 100 = .ok (.iload 4, 2) := dk_21 4 (dk_at dksJ22_resize_4 6 rfl rfl)
theorem dJ22_resize_102 : decode cJ22_resize 102 = .ok (.ldc 42, 2) := dk_18 42 (dk_at dksJ22_resize_4 8 rfl rfl)
theorem dJ22_resize_104 : decode cJ22_resize 104 = .ok (.if_icmp .ge 17, 3) := dk_162 0 17 (dk_at dksJ22_resize_4 10 rfl rfl)
theorem dJ22_resize_107 : decode cJ22_resize 107 = .ok (.fload 6, 2) := dk_23 6 (dk_at dksJ22_resize_4 13 rfl rfl)
theorem dJ22_resize_109 : decode cJ22_resize 109 = .ok (.ldc 210, 2) := dk_18 210 (dk_at dksJ22_resize_4 15 rfl rfl)
theorem dJ22_resize_111 : decode cJ22_resize 111 = .ok (.fcmp .g, 1) := dk_150 (dk_at dksJ22_resize_4 17 rfl rfl)
theorem dJ22_resize_112 : decode cJ22_resize 112 = .ok (.ifCond .ge 9, 3) := dk_156 0 9 (dk_at dksJ22_resize_4 18 rfl rfl)
theorem dJ22_resize_115 : decode cJ22_resize 115 = .ok (.fload 6, 2) := dk_23 6 (dk_at dksJ22_resize_4 21 rfl rfl)
theorem dJ22_resize_117 : decode cJ22_resize 117 = .ok (.f2i, 1) := dk_139 (dk_at dksJ22_resize_4 23 rfl rfl)
theorem dJ22_resize_118 : decode cJ22_resize 118 = .ok (.goto 5, 3) := dk_167 0 5 (dk_at dksJ22_resize_5 0 rfl rfl)
theorem dJ22_resize_121 : decode cJ22_resize 121 = .ok (.ldc 209, 2) := dk_18 209 (dk_at dksJ22_resize_5 3 rfl rfl)
theorem dJ22_resize_123 : decode cJ22_resize 123 = .ok (.istore 5, 2) := dk_54 5 (dk_at dksJ22_resize_5 5 rfl rfl)
theorem dJ22_resize_125 : decode cJ22_resize 125 = .ok (.aload_n 0, 1) := dk_42 (dk_at dksJ22_resize_5 7 rfl rfl)
theorem dJ22_resize_126 : decode cJ22_resize 126 = .ok (.iload 5, 2) := dk_21 5 (dk_at dksJ22_resize_5 8 rfl rfl)
theorem dJ22_resize_128 : decode cJ22_resize 128 = .ok (.putfield 88, 3) := dk_181 0 88 (dk_at dksJ22_resize_5 10 rfl rfl)
theorem dJ22_resize_131 : decode cJ22_resize 131 = .ok (.iload 4, 2) := dk_21 4 (dk_at dksJ22_resize_5 13 rfl rfl)
theorem dJ22_resize_133 : decode cJ22_resize 133 = .ok (.anewarray 163, 3) := dk_189 0 163 (dk_at dksJ22_resize_5 15 rfl rfl)
theorem dJ22_resize_136 : decode cJ22_resize 136 = .ok (.astore 6, 2) := dk_58 6 (dk_at dksJ22_resize_5 18 rfl rfl)
theorem dJ22_resize_138 : decode cJ22_resize 138 = .ok (.aload_n 0, 1) := dk_42 (dk_at dksJ22_resize_5 20 rfl rfl)
theorem dJ22_resize_139 : decode cJ22_resize 139 = .ok (.aload 6, 2) := dk_25 6 (dk_at dksJ22_resize_5 21 rfl rfl)
theorem dJ22_resize_141 : decode cJ22_resize 141 = .ok (.putfield 105, 3) := dk_181 0 105 (dk_at dksJ22_resize_6 0 rfl rfl)
theorem dJ22_resize_144 : decode cJ22_resize 144 = .ok (.aload_n 1, 1) := dk_43 (dk_at dksJ22_resize_6 3 rfl rfl)
theorem dJ22_resize_145 : decode cJ22_resize 145 = .ok (.ifnull 208, 3) := dk_198 0 208 (dk_at dksJ22_resize_6 4 rfl rfl)
theorem dJ22_resize_148 : decode cJ22_resize 148 = .ok (.iconst 0, 1) := dk_3 (dk_at dksJ22_resize_6 7 rfl rfl)
theorem dJ22_resize_149 : decode cJ22_resize 149 = .ok (.istore 7, 2) := dk_54 7 (dk_at dksJ22_resize_6 8 rfl rfl)
theorem dJ22_resize_151 : decode cJ22_resize 151 = .ok (.iload 7, 2) := dk_21 7 (dk_at dksJ22_resize_6 10 rfl rfl)
theorem dJ22_resize_153 : decode cJ22_resize 153 = .ok (.iload_n 2, 1) := dk_28 (dk_at dksJ22_resize_6 12 rfl rfl)
theorem dJ22_resize_154 : decode cJ22_resize 154 = .ok (.if_icmp .ge 199, 3) := dk_162 0 199 (dk_at dksJ22_resize_6 13 rfl rfl)
theorem dJ22_resize_157 : decode cJ22_resize 157 = .ok (.aload_n 1, 1) := dk_43 (dk_at dksJ22_resize_6 16 rfl rfl)
theorem dJ22_resize_158 : decode cJ22_resize 158 = .ok (.iload 7, 2) := dk_21 7 (dk_at dksJ22_resize_6 17 rfl rfl)
theorem dJ22_resize_160 : decode cJ22_resize 160 = .ok (.aaload, 1) := dk_50 (dk_at dksJ22_resize_6 19 rfl rfl)
theorem dJ22_resize_161 : decode cJ22_resize 161 = .ok (.dup, 1) := dk_89 (dk_at dksJ22_resize_6 20 rfl rfl)
theorem dJ22_resize_162 : decode cJ22_resize 162 = .ok (.astore 8, 2) := dk_58 8 (dk_at dksJ22_resize_6 21 rfl rfl)
theorem dJ22_resize_164 : decode cJ22_resize 164 = .ok (.ifnull 183, 3) := dk_198 0 183 (dk_at dksJ22_resize_7 0 rfl rfl)
theorem dJ22_resize_167 : decode cJ22_resize 167 = .ok (.aload_n 1, 1) := dk_43 (dk_at dksJ22_resize_7 3 rfl rfl)
theorem dJ22_resize_168 : decode cJ22_resize 168 = .ok (.iload 7, 2) := dk_21 7 (dk_at dksJ22_resize_7 4 rfl rfl)
theorem dJ22_resize_170 : decode cJ22_resize 170 = .ok (.aconst_null, 1) := dk_1 (dk_at dksJ22_resize_7 6 rfl rfl)
theorem dJ22_resize_171 : decode cJ22_resize 171 = .ok (.aastore, 1) := dk_83 (dk_at dksJ22_resize_7 7 rfl rfl)
theorem dJ22_resize_172 : decode cJ22_resize 172 = .ok (.aload 8, 2) := dk_25 8 (dk_at dksJ22_resize_7 8 rfl rfl)
theorem dJ22_resize_174 : decode cJ22_resize 174 = .ok (.getfield 177, 3) := dk_180 0 177 (dk_at dksJ22_resize_7 10 rfl rfl)
theorem dJ22_resize_177 : decode cJ22_resize 177 = .ok (.ifnonnull 21, 3) := dk_199 0 21 (dk_at dksJ22_resize_7 13 rfl rfl)
theorem dJ22_resize_180 : decode cJ22_resize 180 = .ok (.aload 6, 2) := dk_25 6 (dk_at dksJ22_resize_7 16 rfl rfl)
theorem dJ22_resize_182 : decode cJ22_resize 182 = .ok (.aload 8, 2) := dk_25 8 (dk_at dksJ22_resize_7 18 rfl rfl)
theorem dJ22_resize_184 : decode cJ22_resize 184 = .ok (.getfield 168, 3) := dk_180 0 168 (dk_at dksJ22_resize_7 20 rfl rfl)
theorem dJ22_resize_187 : decode cJ22_resize 187 = .ok (.iload 4, 2) := dk_21 4 (dk_at dksJ22_resize_8 0 rfl rfl)
theorem dJ22_resize_189 : decode cJ22_resize 189 = .ok (.iconst 1, 1) := dk_4 (dk_at dksJ22_resize_8 2 rfl rfl)
theorem dJ22_resize_190 : decode cJ22_resize 190 = .ok (.isub, 1) := dk_100 (dk_at dksJ22_resize_8 3 rfl rfl)
theorem dJ22_resize_191 : decode cJ22_resize 191 = .ok (.iand, 1) := dk_126 (dk_at dksJ22_resize_8 4 rfl rfl)
theorem dJ22_resize_192 : decode cJ22_resize 192 = .ok (.aload 8, 2) := dk_25 8 (dk_at dksJ22_resize_8 5 rfl rfl)
theorem dJ22_resize_194 : decode cJ22_resize 194 = .ok (.aastore, 1) := dk_83 (dk_at dksJ22_resize_8 7 rfl rfl)
theorem dJ22_resize_195 : decode cJ22_resize 195 = .ok (.goto 152, 3) := dk_167 0 152 (dk_at dksJ22_resize_8 8 rfl rfl)
theorem dJ22_resize_198 : decode cJ22_resize 198 = .ok (.aload 8, 2) := dk_25 8 (dk_at dksJ22_resize_8 11 rfl rfl)
theorem dJ22_resize_200 : decode cJ22_resize 200 = .ok (.instanceof 180, 3) := dk_193 0 180 (dk_at dksJ22_resize_8 13 rfl rfl)
theorem dJ22_resize_203 : decode cJ22_resize 203 = .ok (.ifCond .eq 20, 3) := dk_153 0 20 (dk_at dksJ22_resize_8 16 rfl rfl)
theorem dJ22_resize_206 : decode cJ22_resize 206 = .ok (.aload 8, 2) := dk_25 8 (dk_at dksJ22_resize_8 19 rfl rfl)
theorem dJ22_resize_208 : decode cJ22_resize 208 = .ok (.checkcast 180, 3) := dk_192 0 180 (dk_at dksJ22_resize_8 21 rfl rfl)
theorem dJ22_resize_211 : decode cJ22_resize 211 = .ok (.aload_n 0, 1) := dk_42 (dk_at dksJ22_resize_9 0 rfl rfl)
theorem dJ22_resize_212 : decode cJ22_resize 212 = .ok (.aload 6, 2) := dk_25 6 (dk_at dksJ22_resize_9 1 rfl rfl)
theorem dJ22_resize_214 : decode cJ22_resize 214 = .ok (.iload 7, 2) := dk_21 7 (dk_at dksJ22_resize_9 3 rfl rfl)
theorem dJ22_resize_216 : decode cJ22_resize 216 = .ok (.iload_n 2, 1) := dk_28 (dk_at dksJ22_resize_9 5 rfl rfl)
theorem dJ22_resize_217 : decode cJ22_resize 217 = .ok (.invokevirtual 211, 3) := dk_182 0 211 (dk_at dksJ22_resize_9 6 rfl rfl)
theorem dJ22_resize_220 : decode cJ22_resize 220 = .ok (.goto 127, 3) := dk_167 0 127 (dk_at dksJ22_resize_9 9 rfl rfl)
theorem dJ22_resize_223 : decode cJ22_resize 223 = .ok (.aconst_null, 1) := dk_1 (dk_at dksJ22_resize_9 12 rfl rfl)
theorem dJ22_resize_224 : decode cJ22_resize 224 = .ok (.astore 9, 2) := dk_58 9 (dk_at dksJ22_resize_9 13 rfl rfl)
theorem dJ22_resize_226 : decode cJ22_resize 226 = .ok (.aconst_null, 1) := dk_1 (dk_at dksJ22_resize_9 15 rfl rfl)
theorem dJ22_resize_227 : decode cJ22_resize 227 = .ok (.astore 10, 2) := dk_58 10 (dk_at dksJ22_resize_9 16 rfl rfl)
theorem dJ22_resize_229 : decode cJ22_resize 229 = .ok (.aconst_null, 1) := dk_1 (dk_at dksJ22_resize_9 18 rfl rfl)
theorem dJ22_resize_230 : decode cJ22_resize 230 = .ok (.astore 11, 2) := dk_58 11 (dk_at dksJ22_resize_9 19 rfl rfl)
theorem dJ22_resize_232 : decode cJ22_resize 232 = .ok (.aconst_null, 1) := dk_1 (dk_at dksJ22_resize_9 21 rfl rfl)
theorem dJ22_resize_233 : decode cJ22_resize 233 = .ok (.astore 12, 2) := dk_58 12 (dk_at dksJ22_resize_9 22 rfl rfl)
theorem dJ22_resize_235 : decode cJ22_resize 235 = .ok (.aload 8, 2) := dk_25 8 (dk_at dksJ22_resize_10 0 rfl rfl)
theorem dJ22_resize_237 : decode cJ22_resize 237 = .ok (.getfield 177, 3) := dk_180 0 177 (dk_at dksJ22_resize_10 2 rfl rfl)
theorem dJ22_resize_240 : decode cJ22_resize 240 = .ok (.astore 13, 2) := dk_58 13 (dk_at dksJ22_resize_10 5 rfl rfl)
theorem dJ22_resize_242 : decode cJ22_resize 242 = .ok (.aload 8, 2) := dk_25 8 (dk_at dksJ22_resize_10 7 rfl rfl)
theorem dJ22_resize_244 : decode cJ22_resize 244 = .ok (.getfield 168, 3) := dk_180 0 168 (dk_at dksJ22_resize_10 9 rfl rfl)
theorem dJ22_resize_247 : decode cJ22_resize 247 = .ok (.iload_n 2, 1) := dk_28 (dk_at dksJ22_resize_10 12 rfl rfl)
theorem dJ22_resize_248 : decode cJ22_resize 248 = .ok (.iand, 1) := dk_126 (dk_at dksJ22_resize_10 13 rfl rfl)
theorem dJ22_resize_249 : decode cJ22_resize 249 = .ok (.ifCond .ne 29, 3) := dk_154 0 29 (dk_at dksJ22_resize_10 14 rfl rfl)
theorem dJ22_resize_252 : decode cJ22_resize 252 = .ok (.aload 10, 2) := dk_25 10 (dk_at dksJ22_resize_10 17 rfl rfl)
theorem dJ22_resize_254 : decode cJ22_resize 254 = .ok (.ifnonnull 10, 3) := dk_199 0 10 (dk_at dksJ22_resize_10 19 rfl rfl)
theorem dJ22_resize_257 : decode cJ22_resize 257 = .ok (.aload 8, 2) := dk_25 8 (dk_at dksJ22_resize_10 22 rfl rfl)
theorem dJ22_resize_259 : decode cJ22_resize 259 = .ok (.astore 9, 2) := dk_58 9 (dk_at dksJ22_resize_11 0 rfl rfl)
theorem dJ22_resize_261 : decode cJ22_resize 261 = .ok (.goto 10, 3) := dk_167 0 10 (dk_at dksJ22_resize_11 2 rfl rfl)
theorem dJ22_resize_264 : decode cJ22_resize 264 = .ok (.aload 10, 2) := dk_25 10 (dk_at dksJ22_resize_11 5 rfl rfl)
theorem dJ22_resize_266 : decode cJ22_resize 266 = .ok (.aload 8, 2) := dk_25 8 (dk_at dksJ22_resize_11 7 rfl rfl)
theorem dJ22_resize_268 : decode cJ22_resize 268 = .ok (.putfield 177, 3) := dk_181 0 177 (dk_at dksJ22_resize_11 9 rfl rfl)
theorem dJ22_resize_271 : decode cJ22_resize 271 = .ok (.aload 8, 2) := dk_25 8 (dk_at dksJ22_resize_11 12 rfl rfl)
theorem dJ22_resize_273 : decode cJ22_resize 273 = .ok (.astore 10, 2) := dk_58 10 (dk_at dksJ22_resize_11 14 rfl rfl)
theorem dJ22_resize_275 : decode cJ22_resize 275 = .ok (.goto 26, 3) := dk_167 0 26 (dk_at dksJ22_resize_11 16 rfl rfl)
theorem dJ22_resize_278 : decode cJ22_resize 278 = .ok (.aload 12, 2) := dk_25 12 (dk_at dksJ22_resize_11 19 rfl rfl)
theorem dJ22_resize_280 : decode cJ22_resize 280 = .ok (.ifnonnull 10, 3) := dk_199 0 10 (dk_at dksJ22_resize_11 21 rfl rfl)
theorem dJ22_resize_283 : decode cJ22_resize 283 = .ok (.aload 8, 2) := dk_25 8 (dk_at dksJ22_resize_12 0 rfl rfl)
theorem dJ22_resize_285 : decode cJ22_resize 285 = .ok (.astore 11, 2) := dk_58 11 (dk_at dksJ22_resize_12 2 rfl rfl)
theorem dJ22_resize_287 : decode cJ22_resize 287 = .ok (.goto 10, 3) := dk_167 0 10 (dk_at dksJ22_resize_12 4 rfl rfl)
theorem dJ22_resize_290 : decode cJ22_resize 290 = .ok (.aload 12, 2) := dk_25 12 (dk_at dksJ22_resize_12 7 rfl rfl)
theorem dJ22_resize_292 : decode cJ22_resize 292 = .ok (.aload 8, 2) := dk_25 8 (dk_at dksJ22_resize_12 9 rfl rfl)
theorem dJ22_resize_294 : decode cJ22_resize 294 = .ok (.putfield 177, 3) := dk_181 0 177 (dk_at dksJ22_resize_12 11 rfl rfl)
theorem dJ22_resize_297 : decode cJ22_resize 297 = .ok (.aload 8, 2) := dk_25 8 (dk_at dksJ22_resize_12 14 rfl rfl)
theorem dJ22_resize_299 : decode cJ22_resize 299 = .ok (.astore 12, 2) := dk_58 12 (dk_at dksJ22_resize_12 16 rfl rfl)
theorem dJ22_resize_301 : decode cJ22_resize 301 = .ok (.aload 13, 2) := dk_25 13 (dk_at dksJ22_resize_12 18 rfl rfl)
theorem dJ22_resize_303 : decode cJ22_resize 303 = .ok (.dup, 1) := dk_89 (dk_at dksJ22_resize_12 20 rfl rfl)
theorem dJ22_resize_304 : decode cJ22_resize 304 = .ok (.astore 8, 2) := dk_58 8 (dk_at dksJ22_resize_12 21 rfl rfl)
theorem dJ22_resize_306 : decode cJ22_resize 306 = .ok (.ifnonnull (-71), 3) := dk_199 255 185 (dk_at dksJ22_resize_13 0 rfl rfl)
theorem dJ22_resize_309 : decode cJ22_resize 309 = .ok (.aload 10, 2) := dk_25 10 (dk_at dksJ22_resize_13 3 rfl rfl)
theorem dJ22_resize_311 : decode cJ22_resize 311 = .ok (.ifnull 16, 3) := dk_198 0 16 (dk_at dksJ22_resize_13 5 rfl rfl)
theorem dJ22_resize_314 : decode cJ22_resize 314 = .ok (.aload 10, 2) := dk_25 10 (dk_at dksJ22_resize_13 8 rfl rfl)
theorem dJ22_resize_316 : decode cJ22_resize 316 = .ok (.aconst_null, 1) := dk_1 (dk_at dksJ22_resize_13 10 rfl rfl)
theorem dJ22_resize_317 : decode cJ22_resize 317 = .ok (.putfield 177, 3) := dk_181 0 177 (dk_at dksJ22_resize_13 11 rfl rfl)
theorem dJ22_resize_320 : decode cJ22_resize 320 = .ok (.aload 6, 2) := dk_25 6 (dk_at dksJ22_resize_13 14 rfl rfl)
theorem dJ22_resize_322 : decode cJ22_resize 322 = .ok (.iload 7, 2) := dk_21 7 (dk_at dksJ22_resize_13 16 rfl rfl)
theorem dJ22_resize_324 : decode cJ22_resize 324 = .ok (.aload 9, 2) := dk_25 9 (dk_at dksJ22_resize_13 18 rfl rfl)
theorem dJ22_resize_326 : decode cJ22_resize 326 = .ok (.aastore, 1) := dk_83 (dk_at dksJ22_resize_13 20 rfl rfl)
theorem dJ22_resize_327 : decode cJ22_resize 327 = .ok (.aload 12, 2) := dk_25 12 (dk_at dksJ22_resize_13 21 rfl rfl)
theorem dJ22_resize_329 : decode cJ22_resize 329 = .ok (.ifnull 18, 3) := dk_198 0 18 (dk_at dksJ22_resize_14 0 rfl rfl)
theorem dJ22_resize_332 : decode cJ22_resize 332 = .ok (.aload 12, 2) := dk_25 12 (dk_at dksJ22_resize_14 3 rfl rfl)
theorem dJ22_resize_334 : decode cJ22_resize 334 = .ok (.aconst_null, 1) := dk_1 (dk_at dksJ22_resize_14 5 rfl rfl)
theorem dJ22_resize_335 : decode cJ22_resize 335 = .ok (.putfield 177, 3) := dk_181 0 177 (dk_at dksJ22_resize_14 6 rfl rfl)
theorem dJ22_resize_338 : decode cJ22_resize 338 = .ok (.aload 6, 2) := dk_25 6 (dk_at dksJ22_resize_14 9 rfl rfl)
theorem dJ22_resize_340 : decode cJ22_resize 340 = .ok (.iload 7, 2) := dk_21 7 (dk_at dksJ22_resize_14 11 rfl rfl)
theorem dJ22_resize_342 : decode cJ22_resize 342 = .ok (.iload_n 2, 1) := dk_28 (dk_at dksJ22_resize_14 13 rfl rfl)
theorem dJ22_resize_343 : decode cJ22_resize 343 = .ok (.iadd, 1) := dk_96 (dk_at dksJ22_resize_14 14 rfl rfl)
theorem dJ22_resize_344 : decode cJ22_resize 344 = .ok (.aload 11, 2) := dk_25 11 (dk_at dksJ22_resize_14 15 rfl rfl)
theorem dJ22_resize_346 : decode cJ22_resize 346 = .ok (.aastore, 1) := dk_83 (dk_at dksJ22_resize_14 17 rfl rfl)
theorem dJ22_resize_347 : decode cJ22_resize 347 = .ok (.iinc 7 1, 3) := dk_132 7 1 (dk_at dksJ22_resize_14 18 rfl rfl)
theorem dJ22_resize_350 : decode cJ22_resize 350 = .ok (.goto (-199), 3) := dk_167 255 57 (dk_at dksJ22_resize_14 21 rfl rfl)
theorem dJ22_resize_353 : decode cJ22_resize 353 = .ok (.aload 6, 2) := dk_25 6 (dk_at dksJ22_resize_15 0 rfl rfl)
theorem dJ22_resize_355 : decode cJ22_resize 355 = .ok (.areturn, 1) := dk_176 (dk_at dksJ22_resize_15 2 rfl rfl)
abbrev cJ22_replacementNode : ByteArray := prog_84_method_47_code
def yJ22_replacementNode : MethodName := ⟨RJ22, "replacementNode", "(Ljava/util/HashMap$Node;Ljava/util/HashMap$Node;)Ljava/util/HashMap$Node;"⟩
def dkwJ22_replacementNode_0 : List UInt8 := [187, 0, 163, 89, 43, 180, 0, 168, 43, 180, 0, 170, 43, 180, 0, 162, 44, 183, 1, 119, 176]
abbrev dktJ22_replacementNode_0 : List UInt8 := dkwJ22_replacementNode_0 ++ []
theorem dksJ22_replacementNode_0 : cJ22_replacementNode.data.toList.drop 0 = dktJ22_replacementNode_0 := by decide +kernel
theorem dJ22_replacementNode_0 : decode cJ22_replacementNode 0 = .ok (.new 163, 3) := dk_187 0 163 (dk_at dksJ22_replacementNode_0 0 rfl rfl)
theorem dJ22_replacementNode_3 : decode cJ22_replacementNode 3 = .ok (.dup, 1) := dk_89 (dk_at dksJ22_replacementNode_0 3 rfl rfl)
theorem dJ22_replacementNode_4 : decode cJ22_replacementNode 4 = .ok (.aload_n 1, 1) := dk_43 (dk_at dksJ22_replacementNode_0 4 rfl rfl)
theorem dJ22_replacementNode_5 : decode cJ22_replacementNode 5 = .ok (.getfield 168, 3) := dk_180 0 168 (dk_at dksJ22_replacementNode_0 5 rfl rfl)
theorem dJ22_replacementNode_8 : decode cJ22_replacementNode 8 = .ok (.aload_n 1, 1) := dk_43 (dk_at dksJ22_replacementNode_0 8 rfl rfl)
theorem dJ22_replacementNode_9 : decode cJ22_replacementNode 9 = .ok (.getfield 170, 3) := dk_180 0 170 (dk_at dksJ22_replacementNode_0 9 rfl rfl)
theorem dJ22_replacementNode_12 : decode cJ22_replacementNode 12 = .ok (.aload_n 1, 1) := dk_43 (dk_at dksJ22_replacementNode_0 12 rfl rfl)
theorem dJ22_replacementNode_13 : decode cJ22_replacementNode 13 = .ok (.getfield 162, 3) := dk_180 0 162 (dk_at dksJ22_replacementNode_0 13 rfl rfl)
theorem dJ22_replacementNode_16 : decode cJ22_replacementNode 16 = .ok (.aload_n 2, 1) := dk_44 (dk_at dksJ22_replacementNode_0 16 rfl rfl)
theorem dJ22_replacementNode_17 : decode cJ22_replacementNode 17 = .ok (.invokespecial 375, 3) := dk_183 1 119 (dk_at dksJ22_replacementNode_0 17 rfl rfl)
theorem dJ22_replacementNode_20 : decode cJ22_replacementNode 20 = .ok (.areturn, 1) := dk_176 (dk_at dksJ22_replacementNode_0 20 rfl rfl)
abbrev cJ22_newNode : ByteArray := prog_84_method_46_code
def yJ22_newNode : MethodName := ⟨RJ22, "newNode", "(ILjava/lang/Object;Ljava/lang/Object;Ljava/util/HashMap$Node;)Ljava/util/HashMap$Node;"⟩
def dkwJ22_newNode_0 : List UInt8 := [187, 0, 163, 89, 27, 44, 45, 25, 4, 183, 1, 119, 176]
abbrev dktJ22_newNode_0 : List UInt8 := dkwJ22_newNode_0 ++ []
theorem dksJ22_newNode_0 : cJ22_newNode.data.toList.drop 0 = dktJ22_newNode_0 := by decide +kernel
theorem dJ22_newNode_0 : decode cJ22_newNode 0 = .ok (.new 163, 3) := dk_187 0 163 (dk_at dksJ22_newNode_0 0 rfl rfl)
theorem dJ22_newNode_3 : decode cJ22_newNode 3 = .ok (.dup, 1) := dk_89 (dk_at dksJ22_newNode_0 3 rfl rfl)
theorem dJ22_newNode_4 : decode cJ22_newNode 4 = .ok (.iload_n 1, 1) := dk_27 (dk_at dksJ22_newNode_0 4 rfl rfl)
theorem dJ22_newNode_5 : decode cJ22_newNode 5 = .ok (.aload_n 2, 1) := dk_44 (dk_at dksJ22_newNode_0 5 rfl rfl)
theorem dJ22_newNode_6 : decode cJ22_newNode 6 = .ok (.aload_n 3, 1) := dk_45 (dk_at dksJ22_newNode_0 6 rfl rfl)
theorem dJ22_newNode_7 : decode cJ22_newNode 7 = .ok (.aload 4, 2) := dk_25 4 (dk_at dksJ22_newNode_0 7 rfl rfl)
theorem dJ22_newNode_9 : decode cJ22_newNode 9 = .ok (.invokespecial 375, 3) := dk_183 1 119 (dk_at dksJ22_newNode_0 9 rfl rfl)
theorem dJ22_newNode_12 : decode cJ22_newNode 12 = .ok (.areturn, 1) := dk_176 (dk_at dksJ22_newNode_0 12 rfl rfl)
abbrev cJ22_newTreeNode : ByteArray := prog_84_method_48_code
def yJ22_newTreeNode : MethodName := ⟨RJ22, "newTreeNode", "(ILjava/lang/Object;Ljava/lang/Object;Ljava/util/HashMap$Node;)Ljava/util/HashMap$TreeNode;"⟩
def dkwJ22_newTreeNode_0 : List UInt8 := [187, 0, 180, 89, 27, 44, 45, 25, 4, 183, 1, 122, 176]
abbrev dktJ22_newTreeNode_0 : List UInt8 := dkwJ22_newTreeNode_0 ++ []
theorem dksJ22_newTreeNode_0 : cJ22_newTreeNode.data.toList.drop 0 = dktJ22_newTreeNode_0 := by decide +kernel
theorem dJ22_newTreeNode_0 : decode cJ22_newTreeNode 0 = .ok (.new 180, 3) := dk_187 0 180 (dk_at dksJ22_newTreeNode_0 0 rfl rfl)
theorem dJ22_newTreeNode_3 : decode cJ22_newTreeNode 3 = .ok (.dup, 1) := dk_89 (dk_at dksJ22_newTreeNode_0 3 rfl rfl)
theorem dJ22_newTreeNode_4 : decode cJ22_newTreeNode 4 = .ok (.iload_n 1, 1) := dk_27 (dk_at dksJ22_newTreeNode_0 4 rfl rfl)
theorem dJ22_newTreeNode_5 : decode cJ22_newTreeNode 5 = .ok (.aload_n 2, 1) := dk_44 (dk_at dksJ22_newTreeNode_0 5 rfl rfl)
theorem dJ22_newTreeNode_6 : decode cJ22_newTreeNode 6 = .ok (.aload_n 3, 1) := dk_45 (dk_at dksJ22_newTreeNode_0 6 rfl rfl)
theorem dJ22_newTreeNode_7 : decode cJ22_newTreeNode 7 = .ok (.aload 4, 2) := dk_25 4 (dk_at dksJ22_newTreeNode_0 7 rfl rfl)
theorem dJ22_newTreeNode_9 : decode cJ22_newTreeNode 9 = .ok (.invokespecial 378, 3) := dk_183 1 122 (dk_at dksJ22_newTreeNode_0 9 rfl rfl)
theorem dJ22_newTreeNode_12 : decode cJ22_newTreeNode 12 = .ok (.areturn, 1) := dk_176 (dk_at dksJ22_newTreeNode_0 12 rfl rfl)
abbrev cJ22_treeifyBin : ByteArray := prog_84_method_18_code
def yJ22_treeifyBin : MethodName := ⟨RJ22, "treeifyBin", "([Ljava/util/HashMap$Node;I)V"⟩
def dkwJ22_treeifyBin_4 : List UInt8 := [21, 4, 25, 6, 91, 83, 198, 0, 9, 25, 6, 43, 182, 0, 224, 177]
abbrev dktJ22_treeifyBin_4 : List UInt8 := dkwJ22_treeifyBin_4 ++ []
def dkwJ22_treeifyBin_3 : List UInt8 := [25, 7, 25, 8, 181, 0, 223, 25, 8, 58, 7, 25, 5, 180, 0, 177, 89, 58, 5, 199, 255, 209, 43]
abbrev dktJ22_treeifyBin_3 : List UInt8 := dkwJ22_treeifyBin_3 ++ dktJ22_treeifyBin_4
def dkwJ22_treeifyBin_2 : List UInt8 := [182, 0, 215, 58, 8, 25, 7, 199, 0, 10, 25, 8, 58, 6, 167, 0, 17, 25, 8, 25, 7, 181, 0, 219]
abbrev dktJ22_treeifyBin_2 : List UInt8 := dkwJ22_treeifyBin_2 ++ dktJ22_treeifyBin_3
def dkwJ22_treeifyBin_1 : List UInt8 := [100, 28, 126, 89, 54, 4, 50, 89, 58, 5, 198, 0, 75, 1, 58, 6, 1, 58, 7, 42, 25, 5, 1]
abbrev dktJ22_treeifyBin_1 : List UInt8 := dkwJ22_treeifyBin_1 ++ dktJ22_treeifyBin_2
def dkwJ22_treeifyBin_0 : List UInt8 := [43, 198, 0, 12, 43, 190, 89, 62, 16, 64, 162, 0, 11, 42, 182, 0, 117, 87, 167, 0, 91, 43, 29, 4]
abbrev dktJ22_treeifyBin_0 : List UInt8 := dkwJ22_treeifyBin_0 ++ dktJ22_treeifyBin_1
theorem dksJ22_treeifyBin_0 : cJ22_treeifyBin.data.toList.drop 0 = dktJ22_treeifyBin_0 := by decide +kernel
theorem dksJ22_treeifyBin_1 : cJ22_treeifyBin.data.toList.drop 24 = dktJ22_treeifyBin_1 := dk_seg dksJ22_treeifyBin_0 24 rfl rfl
theorem dksJ22_treeifyBin_2 : cJ22_treeifyBin.data.toList.drop 47 = dktJ22_treeifyBin_2 := dk_seg dksJ22_treeifyBin_1 23 rfl rfl
theorem dksJ22_treeifyBin_3 : cJ22_treeifyBin.data.toList.drop 71 = dktJ22_treeifyBin_3 := dk_seg dksJ22_treeifyBin_2 24 rfl rfl
theorem dksJ22_treeifyBin_4 : cJ22_treeifyBin.data.toList.drop 94 = dktJ22_treeifyBin_4 := dk_seg dksJ22_treeifyBin_3 23 rfl rfl
theorem dJ22_treeifyBin_0 : decode cJ22_treeifyBin 0 = .ok (.aload_n 1, 1) := dk_43 (dk_at dksJ22_treeifyBin_0 0 rfl rfl)
theorem dJ22_treeifyBin_1 : decode cJ22_treeifyBin 1 = .ok (.ifnull 12, 3) := dk_198 0 12 (dk_at dksJ22_treeifyBin_0 1 rfl rfl)
theorem dJ22_treeifyBin_4 : decode cJ22_treeifyBin 4 = .ok (.aload_n 1, 1) := dk_43 (dk_at dksJ22_treeifyBin_0 4 rfl rfl)
theorem dJ22_treeifyBin_5 : decode cJ22_treeifyBin 5 = .ok (.arraylength, 1) := dk_190 (dk_at dksJ22_treeifyBin_0 5 rfl rfl)
theorem dJ22_treeifyBin_6 : decode cJ22_treeifyBin 6 = .ok (.dup, 1) := dk_89 (dk_at dksJ22_treeifyBin_0 6 rfl rfl)
theorem dJ22_treeifyBin_7 : decode cJ22_treeifyBin 7 = .ok (.istore_n 3, 1) := dk_62 (dk_at dksJ22_treeifyBin_0 7 rfl rfl)
theorem dJ22_treeifyBin_8 : decode cJ22_treeifyBin 8 = .ok (.bipush 64, 2) := dk_16 64 (dk_at dksJ22_treeifyBin_0 8 rfl rfl)
theorem dJ22_treeifyBin_10 : decode cJ22_treeifyBin 10 = .ok (.if_icmp .ge 11, 3) := dk_162 0 11 (dk_at dksJ22_treeifyBin_0 10 rfl rfl)
theorem dJ22_treeifyBin_13 : decode cJ22_treeifyBin 13 = .ok (.aload_n 0, 1) := dk_42 (dk_at dksJ22_treeifyBin_0 13 rfl rfl)
theorem dJ22_treeifyBin_14 : decode cJ22_treeifyBin 14 = .ok (.invokevirtual 117, 3) := dk_182 0 117 (dk_at dksJ22_treeifyBin_0 14 rfl rfl)
theorem dJ22_treeifyBin_17 : decode cJ22_treeifyBin 17 = .ok (.pop, 1) := dk_87 (dk_at dksJ22_treeifyBin_0 17 rfl rfl)
theorem dJ22_treeifyBin_18 : decode cJ22_treeifyBin 18 = .ok (.goto 91, 3) := dk_167 0 91 (dk_at dksJ22_treeifyBin_0 18 rfl rfl)
theorem dJ22_treeifyBin_21 : decode cJ22_treeifyBin 21 = .ok (.aload_n 1, 1) := dk_43 (dk_at dksJ22_treeifyBin_0 21 rfl rfl)
theorem dJ22_treeifyBin_22 : decode cJ22_treeifyBin 22 = .ok (.iload_n 3, 1) := dk_29 (dk_at dksJ22_treeifyBin_0 22 rfl rfl)
theorem dJ22_treeifyBin_23 : decode cJ22_treeifyBin 23 = .ok (.iconst 1, 1) := dk_4 (dk_at dksJ22_treeifyBin_0 23 rfl rfl)
theorem dJ22_treeifyBin_24 : decode cJ22_treeifyBin 24 = .ok (.isub, 1) := dk_100 (dk_at dksJ22_treeifyBin_1 0 rfl rfl)
theorem dJ22_treeifyBin_25 : decode cJ22_treeifyBin 25 = .ok (.iload_n 2, 1) := dk_28 (dk_at dksJ22_treeifyBin_1 1 rfl rfl)
theorem dJ22_treeifyBin_26 : decode cJ22_treeifyBin 26 = .ok (.iand, 1) := dk_126 (dk_at dksJ22_treeifyBin_1 2 rfl rfl)
theorem dJ22_treeifyBin_27 : decode cJ22_treeifyBin 27 = .ok (.dup, 1) := dk_89 (dk_at dksJ22_treeifyBin_1 3 rfl rfl)
theorem dJ22_treeifyBin_28 : decode cJ22_treeifyBin 28 = .ok (.istore 4, 2) := dk_54 4 (dk_at dksJ22_treeifyBin_1 4 rfl rfl)
theorem dJ22_treeifyBin_30 : decode cJ22_treeifyBin 30 = .ok (.aaload, 1) := dk_50 (dk_at dksJ22_treeifyBin_1 6 rfl rfl)
theorem dJ22_treeifyBin_31 : decode cJ22_treeifyBin 31 = .ok (.dup, 1) := dk_89 (dk_at dksJ22_treeifyBin_1 7 rfl rfl)
theorem dJ22_treeifyBin_32 : decode cJ22_treeifyBin 32 = .ok (.astore 5, 2) := dk_58 5 (dk_at dksJ22_treeifyBin_1 8 rfl rfl)
theorem dJ22_treeifyBin_34 : decode cJ22_treeifyBin 34 = .ok (.ifnull 75, 3) := dk_198 0 75 (dk_at dksJ22_treeifyBin_1 10 rfl rfl)
theorem dJ22_treeifyBin_37 : decode cJ22_treeifyBin 37 = .ok (.aconst_null, 1) := dk_1 (dk_at dksJ22_treeifyBin_1 13 rfl rfl)
theorem dJ22_treeifyBin_38 : decode cJ22_treeifyBin 38 = .ok (.astore 6, 2) := dk_58 6 (dk_at dksJ22_treeifyBin_1 14 rfl rfl)
theorem dJ22_treeifyBin_40 : decode cJ22_treeifyBin 40 = .ok (.aconst_null, 1) := dk_1 (dk_at dksJ22_treeifyBin_1 16 rfl rfl)
theorem dJ22_treeifyBin_41 : decode cJ22_treeifyBin 41 = .ok (.astore 7, 2) := dk_58 7 (dk_at dksJ22_treeifyBin_1 17 rfl rfl)
theorem dJ22_treeifyBin_43 : decode cJ22_treeifyBin 43 = .ok (.aload_n 0, 1) := dk_42 (dk_at dksJ22_treeifyBin_1 19 rfl rfl)
theorem dJ22_treeifyBin_44 : decode cJ22_treeifyBin 44 = .ok (.aload 5, 2) := dk_25 5 (dk_at dksJ22_treeifyBin_1 20 rfl rfl)
theorem dJ22_treeifyBin_46 : decode cJ22_treeifyBin 46 = .ok (.aconst_null, 1) := dk_1 (dk_at dksJ22_treeifyBin_1 22 rfl rfl)
theorem dJ22_treeifyBin_47 : decode cJ22_treeifyBin 47 = .ok (.invokevirtual 215, 3) := dk_182 0 215 (dk_at dksJ22_treeifyBin_2 0 rfl rfl)
theorem dJ22_treeifyBin_50 : decode cJ22_treeifyBin 50 = .ok (.astore 8, 2) := dk_58 8 (dk_at dksJ22_treeifyBin_2 3 rfl rfl)
theorem dJ22_treeifyBin_52 : decode cJ22_treeifyBin 52 = .ok (.aload 7, 2) := dk_25 7 (dk_at dksJ22_treeifyBin_2 5 rfl rfl)
theorem dJ22_treeifyBin_54 : decode cJ22_treeifyBin 54 = .ok (.ifnonnull 10, 3) := dk_199 0 10 (dk_at dksJ22_treeifyBin_2 7 rfl rfl)
theorem dJ22_treeifyBin_57 : decode cJ22_treeifyBin 57 = .ok (.aload 8, 2) := dk_25 8 (dk_at dksJ22_treeifyBin_2 10 rfl rfl)
theorem dJ22_treeifyBin_59 : decode cJ22_treeifyBin 59 = .ok (.astore 6, 2) := dk_58 6 (dk_at dksJ22_treeifyBin_2 12 rfl rfl)
theorem dJ22_treeifyBin_61 : decode cJ22_treeifyBin 61 = .ok (.goto 17, 3) := dk_167 0 17 (dk_at dksJ22_treeifyBin_2 14 rfl rfl)
theorem dJ22_treeifyBin_64 : decode cJ22_treeifyBin 64 = .ok (.aload 8, 2) := dk_25 8 (dk_at dksJ22_treeifyBin_2 17 rfl rfl)
theorem dJ22_treeifyBin_66 : decode cJ22_treeifyBin 66 = .ok (.aload 7, 2) := dk_25 7 (dk_at dksJ22_treeifyBin_2 19 rfl rfl)
theorem dJ22_treeifyBin_68 : decode cJ22_treeifyBin 68 = .ok (.putfield 219, 3) := dk_181 0 219 (dk_at dksJ22_treeifyBin_2 21 rfl rfl)
theorem dJ22_treeifyBin_71 : decode cJ22_treeifyBin 71 = .ok (.aload 7, 2) := dk_25 7 (dk_at dksJ22_treeifyBin_3 0 rfl rfl)
theorem dJ22_treeifyBin_73 : decode cJ22_treeifyBin 73 = .ok (.aload 8, 2) := dk_25 8 (dk_at dksJ22_treeifyBin_3 2 rfl rfl)
theorem dJ22_treeifyBin_75 : decode cJ22_treeifyBin 75 = .ok (.putfield 223, 3) := dk_181 0 223 (dk_at dksJ22_treeifyBin_3 4 rfl rfl)
theorem dJ22_treeifyBin_78 : decode cJ22_treeifyBin 78 = .ok (.aload 8, 2) := dk_25 8 (dk_at dksJ22_treeifyBin_3 7 rfl rfl)
theorem dJ22_treeifyBin_80 : decode cJ22_treeifyBin 80 = .ok (.astore 7, 2) := dk_58 7 (dk_at dksJ22_treeifyBin_3 9 rfl rfl)
theorem dJ22_treeifyBin_82 : decode cJ22_treeifyBin 82 = .ok (.aload 5, 2) := dk_25 5 (dk_at dksJ22_treeifyBin_3 11 rfl rfl)
theorem dJ22_treeifyBin_84 : decode cJ22_treeifyBin 84 = .ok (.getfield 177, 3) := dk_180 0 177 (dk_at dksJ22_treeifyBin_3 13 rfl rfl)
theorem dJ22_treeifyBin_87 : decode cJ22_treeifyBin 87 = .ok (.dup, 1) := dk_89 (dk_at dksJ22_treeifyBin_3 16 rfl rfl)
theorem dJ22_treeifyBin_88 : decode cJ22_treeifyBin 88 = .ok (.astore 5, 2) := dk_58 5 (dk_at dksJ22_treeifyBin_3 17 rfl rfl)
theorem dJ22_treeifyBin_90 : decode cJ22_treeifyBin 90 = .ok (.ifnonnull (-47), 3) := dk_199 255 209 (dk_at dksJ22_treeifyBin_3 19 rfl rfl)
theorem dJ22_treeifyBin_93 : decode cJ22_treeifyBin 93 = .ok (.aload_n 1, 1) := dk_43 (dk_at dksJ22_treeifyBin_3 22 rfl rfl)
theorem dJ22_treeifyBin_94 : decode cJ22_treeifyBin 94 = .ok (.iload 4, 2) := dk_21 4 (dk_at dksJ22_treeifyBin_4 0 rfl rfl)
theorem dJ22_treeifyBin_96 : decode cJ22_treeifyBin 96 = .ok (.aload 6, 2) := dk_25 6 (dk_at dksJ22_treeifyBin_4 2 rfl rfl)
theorem dJ22_treeifyBin_98 : decode cJ22_treeifyBin 98 = .ok (.dup_x2, 1) := dk_91 (dk_at dksJ22_treeifyBin_4 4 rfl rfl)
theorem dJ22_treeifyBin_99 : decode cJ22_treeifyBin 99 = .ok (.aastore, 1) := dk_83 (dk_at dksJ22_treeifyBin_4 5 rfl rfl)
theorem dJ22_treeifyBin_100 : decode cJ22_treeifyBin 100 = .ok (.ifnull 9, 3) := dk_198 0 9 (dk_at dksJ22_treeifyBin_4 6 rfl rfl)
theorem dJ22_treeifyBin_103 : decode cJ22_treeifyBin 103 = .ok (.aload 6, 2) := dk_25 6 (dk_at dksJ22_treeifyBin_4 9 rfl rfl)
theorem dJ22_treeifyBin_105 : decode cJ22_treeifyBin 105 = .ok (.aload_n 1, 1) := dk_43 (dk_at dksJ22_treeifyBin_4 11 rfl rfl)
theorem dJ22_treeifyBin_106 : decode cJ22_treeifyBin 106 = .ok (.invokevirtual 224, 3) := dk_182 0 224 (dk_at dksJ22_treeifyBin_4 12 rfl rfl)
theorem dJ22_treeifyBin_109 : decode cJ22_treeifyBin 109 = .ok (.return_, 1) := dk_177 (dk_at dksJ22_treeifyBin_4 15 rfl rfl)
abbrev cJ22_replacementTreeNode : ByteArray := prog_84_method_49_code
def yJ22_replacementTreeNode : MethodName := ⟨RJ22, "replacementTreeNode", "(Ljava/util/HashMap$Node;Ljava/util/HashMap$Node;)Ljava/util/HashMap$TreeNode;"⟩
def dkwJ22_replacementTreeNode_0 : List UInt8 := [187, 0, 180, 89, 43, 180, 0, 168, 43, 180, 0, 170, 43, 180, 0, 162, 44, 183, 1, 122, 176]
abbrev dktJ22_replacementTreeNode_0 : List UInt8 := dkwJ22_replacementTreeNode_0 ++ []
theorem dksJ22_replacementTreeNode_0 : cJ22_replacementTreeNode.data.toList.drop 0 = dktJ22_replacementTreeNode_0 := by decide +kernel
theorem dJ22_replacementTreeNode_0 : decode cJ22_replacementTreeNode 0 = .ok (.new 180, 3) := dk_187 0 180 (dk_at dksJ22_replacementTreeNode_0 0 rfl rfl)
theorem dJ22_replacementTreeNode_3 : decode cJ22_replacementTreeNode 3 = .ok (.dup, 1) := dk_89 (dk_at dksJ22_replacementTreeNode_0 3 rfl rfl)
theorem dJ22_replacementTreeNode_4 : decode cJ22_replacementTreeNode 4 = .ok (.aload_n 1, 1) := dk_43 (dk_at dksJ22_replacementTreeNode_0 4 rfl rfl)
theorem dJ22_replacementTreeNode_5 : decode cJ22_replacementTreeNode 5 = .ok (.getfield 168, 3) := dk_180 0 168 (dk_at dksJ22_replacementTreeNode_0 5 rfl rfl)
theorem dJ22_replacementTreeNode_8 : decode cJ22_replacementTreeNode 8 = .ok (.aload_n 1, 1) := dk_43 (dk_at dksJ22_replacementTreeNode_0 8 rfl rfl)
theorem dJ22_replacementTreeNode_9 : decode cJ22_replacementTreeNode 9 = .ok (.getfield 170, 3) := dk_180 0 170 (dk_at dksJ22_replacementTreeNode_0 9 rfl rfl)
theorem dJ22_replacementTreeNode_12 : decode cJ22_replacementTreeNode 12 = .ok (.aload_n 1, 1) := dk_43 (dk_at dksJ22_replacementTreeNode_0 12 rfl rfl)
theorem dJ22_replacementTreeNode_13 : decode cJ22_replacementTreeNode 13 = .ok (.getfield 162, 3) := dk_180 0 162 (dk_at dksJ22_replacementTreeNode_0 13 rfl rfl)
theorem dJ22_replacementTreeNode_16 : decode cJ22_replacementTreeNode 16 = .ok (.aload_n 2, 1) := dk_44 (dk_at dksJ22_replacementTreeNode_0 16 rfl rfl)
theorem dJ22_replacementTreeNode_17 : decode cJ22_replacementTreeNode 17 = .ok (.invokespecial 378, 3) := dk_183 1 122 (dk_at dksJ22_replacementTreeNode_0 17 rfl rfl)
theorem dJ22_replacementTreeNode_20 : decode cJ22_replacementTreeNode 20 = .ok (.areturn, 1) := dk_176 (dk_at dksJ22_replacementTreeNode_0 20 rfl rfl)
abbrev cJ22_afterNodeAccess : ByteArray := prog_84_method_51_code
def yJ22_afterNodeAccess : MethodName := ⟨RJ22, "afterNodeAccess", "(Ljava/util/HashMap$Node;)V"⟩
theorem dJ22_afterNodeAccess_0 : decode cJ22_afterNodeAccess 0 = .ok (.return_, 1) := by decide +kernel
abbrev cJ22_afterNodeInsertion : ByteArray := prog_84_method_52_code
def yJ22_afterNodeInsertion : MethodName := ⟨RJ22, "afterNodeInsertion", "(Z)V"⟩
theorem dJ22_afterNodeInsertion_0 : decode cJ22_afterNodeInsertion 0 = .ok (.return_, 1) := by decide +kernel
abbrev cJ22_get : ByteArray := prog_84_method_12_code
def yJ22_get : MethodName := ⟨RJ22, "get", "(Ljava/lang/Object;)Ljava/lang/Object;"⟩
def dkwJ22_get_0 : List UInt8 := [42, 43, 182, 0, 158, 89, 77, 199, 0, 7, 1, 167, 0, 7, 44, 180, 0, 162, 176]
abbrev dktJ22_get_0 : List UInt8 := dkwJ22_get_0 ++ []
theorem dksJ22_get_0 : cJ22_get.data.toList.drop 0 = dktJ22_get_0 := by decide +kernel
theorem dJ22_get_0 : decode cJ22_get 0 = .ok (.aload_n 0, 1) := dk_42 (dk_at dksJ22_get_0 0 rfl rfl)
theorem dJ22_get_1 : decode cJ22_get 1 = .ok (.aload_n 1, 1) := dk_43 (dk_at dksJ22_get_0 1 rfl rfl)
theorem dJ22_get_2 : decode cJ22_get 2 = .ok (.invokevirtual 158, 3) := dk_182 0 158 (dk_at dksJ22_get_0 2 rfl rfl)
theorem dJ22_get_5 : decode cJ22_get 5 = .ok (.dup, 1) := dk_89 (dk_at dksJ22_get_0 5 rfl rfl)
theorem dJ22_get_6 : decode cJ22_get 6 = .ok (.astore_n 2, 1) := dk_77 (dk_at dksJ22_get_0 6 rfl rfl)
theorem dJ22_get_7 : decode cJ22_get 7 = .ok (.ifnonnull 7, 3) := dk_199 0 7 (dk_at dksJ22_get_0 7 rfl rfl)
theorem dJ22_get_10 : decode cJ22_get 10 = .ok (.aconst_null, 1) := dk_1 (dk_at dksJ22_get_0 10 rfl rfl)
theorem dJ22_get_11 : decode cJ22_get 11 = .ok (.goto 7, 3) := dk_167 0 7 (dk_at dksJ22_get_0 11 rfl rfl)
theorem dJ22_get_14 : decode cJ22_get 14 = .ok (.aload_n 2, 1) := dk_44 (dk_at dksJ22_get_0 14 rfl rfl)
theorem dJ22_get_15 : decode cJ22_get 15 = .ok (.getfield 162, 3) := dk_180 0 162 (dk_at dksJ22_get_0 15 rfl rfl)
theorem dJ22_get_18 : decode cJ22_get 18 = .ok (.areturn, 1) := dk_176 (dk_at dksJ22_get_0 18 rfl rfl)
theorem q133 : (Jvm.Cond.initialized "java/util/HashMap") ∈ lw_all := lw_g (lw_at lw_m1 34 rfl) rfl
theorem q836 : (Jvm.Cond.selects "java/util/HashMap" ({ cls := "java/lang/Object", name := "getClass", desc := "()Ljava/lang/Class;" } : Jvm.MethodName) ({ cls := "java/lang/Object", name := "getClass", desc := "()Ljava/lang/Class;" } : Jvm.MethodName)) ∈ lw_all := lw_g (lw_at lw_m4 17 rfl) rfl
theorem q859 : (Jvm.Cond.instantiable "java/util/HashMap" (8 : Nat)) ∈ lw_all := lw_g (lw_at lw_m4 40 rfl) rfl
theorem q861 : (Jvm.Cond.instanceMethod ({ cls := "java/util/HashMap", name := "<init>", desc := "()V" } : Jvm.MethodName)) ∈ lw_all := lw_g (lw_at lw_m4 42 rfl) rfl
theorem q862 : (Jvm.Cond.code ({ cls := "java/util/HashMap", name := "<init>", desc := "()V" } : Jvm.MethodName) prog_84_method_7_code (1 : Nat) (Option.none : Option Jvm.ClassFile.FieldType)) ∈ lw_all := lw_g (lw_at lw_m4 43 rfl) rfl
theorem q863 : (Jvm.Cond.methodLink "java/util/HashMap" (43 : Nat) ({ cls := "java/util/AbstractMap", name := "<init>", desc := "()V" } : Jvm.MethodName)) ∈ lw_all := lw_g (lw_at lw_m4 44 rfl) rfl
theorem q867 : (Jvm.Cond.constantFloat "java/util/HashMap" (92 : Nat) (1061158912 : UInt32)) ∈ lw_all := lw_g (lw_at lw_m4 48 rfl) rfl
theorem q868 : (Jvm.Cond.fieldLink "java/util/HashMap" (105 : Nat) "java/util/HashMap" "table" "[Ljava/util/HashMap$Node;") ∈ lw_all := lw_g (lw_at lw_m4 49 rfl) rfl
theorem q869 : (Jvm.Cond.fieldLink "java/util/HashMap" (156 : Nat) "java/util/HashMap" "size" "I") ∈ lw_all := lw_g (lw_at lw_m4 50 rfl) rfl
theorem q870 : (Jvm.Cond.fieldLink "java/util/HashMap" (202 : Nat) "java/util/HashMap" "modCount" "I") ∈ lw_all := lw_g (lw_at lw_m4 51 rfl) rfl
theorem q871 : (Jvm.Cond.fieldLink "java/util/HashMap" (88 : Nat) "java/util/HashMap" "threshold" "I") ∈ lw_all := lw_g (lw_at lw_m4 52 rfl) rfl
theorem q872 : (Jvm.Cond.fieldLink "java/util/HashMap" (81 : Nat) "java/util/HashMap" "loadFactor" "F") ∈ lw_all := lw_g (lw_at lw_m4 53 rfl) rfl
theorem q873 : (Jvm.Cond.lays "java/util/HashMap" "java/util/HashMap" "table" "[Ljava/util/HashMap$Node;") ∈ lw_all := lw_g (lw_at lw_m4 54 rfl) rfl
theorem q874 : (Jvm.Cond.soleField "java/util/HashMap" "table") ∈ lw_all := lw_g (lw_at lw_m4 55 rfl) rfl
theorem q875 : (Jvm.Cond.lays "java/util/HashMap" "java/util/HashMap" "entrySet" "Ljava/util/Set;") ∈ lw_all := lw_g (lw_at lw_m4 56 rfl) rfl
theorem q876 : (Jvm.Cond.soleField "java/util/HashMap" "entrySet") ∈ lw_all := lw_g (lw_at lw_m4 57 rfl) rfl
theorem q877 : (Jvm.Cond.lays "java/util/HashMap" "java/util/HashMap" "size" "I") ∈ lw_all := lw_g (lw_at lw_m4 58 rfl) rfl
theorem q878 : (Jvm.Cond.soleField "java/util/HashMap" "size") ∈ lw_all := lw_g (lw_at lw_m4 59 rfl) rfl
theorem q879 : (Jvm.Cond.lays "java/util/HashMap" "java/util/HashMap" "modCount" "I") ∈ lw_all := lw_g (lw_at lw_m4 60 rfl) rfl
theorem q880 : (Jvm.Cond.soleField "java/util/HashMap" "modCount") ∈ lw_all := lw_g (lw_at lw_m4 61 rfl) rfl
theorem q881 : (Jvm.Cond.lays "java/util/HashMap" "java/util/HashMap" "threshold" "I") ∈ lw_all := lw_g (lw_at lw_m4 62 rfl) rfl
theorem q882 : (Jvm.Cond.soleField "java/util/HashMap" "threshold") ∈ lw_all := lw_g (lw_at lw_m4 63 rfl) rfl
theorem q883 : (Jvm.Cond.laysFinal "java/util/HashMap" "java/util/HashMap" "loadFactor" "F") ∈ lw_all := lw_g (lw_at lw_m4 64 rfl) rfl
theorem q884 : (Jvm.Cond.soleField "java/util/HashMap" "loadFactor") ∈ lw_all := lw_g (lw_at lw_m4 65 rfl) rfl
theorem q885 : (Jvm.Cond.lays "java/util/HashMap" "java/util/AbstractMap" "keySet" "Ljava/util/Set;") ∈ lw_all := lw_g (lw_at lw_m4 66 rfl) rfl
theorem q887 : (Jvm.Cond.lays "java/util/HashMap" "java/util/AbstractMap" "values" "Ljava/util/Collection;") ∈ lw_all := lw_g (lw_at lw_m4 68 rfl) rfl
theorem q889 : (Jvm.Cond.superclass "java/util/HashMap" "java/util/AbstractMap") ∈ lw_all := lw_g (lw_at lw_m4 70 rfl) rfl
theorem q1029 : (Jvm.Cond.instanceMethod ({ cls := "java/util/HashMap", name := "containsKey", desc := "(Ljava/lang/Object;)Z" } : Jvm.MethodName)) ∈ lw_all := lw_g (lw_at lw_m4 210 rfl) rfl
theorem q1030 : (Jvm.Cond.selects "java/util/HashMap" ({ cls := "java/util/HashMap", name := "containsKey", desc := "(Ljava/lang/Object;)Z" } : Jvm.MethodName) ({ cls := "java/util/HashMap", name := "containsKey", desc := "(Ljava/lang/Object;)Z" } : Jvm.MethodName)) ∈ lw_all := lw_g (lw_at lw_m4 211 rfl) rfl
theorem q1031 : (Jvm.Cond.code ({ cls := "java/util/HashMap", name := "containsKey", desc := "(Ljava/lang/Object;)Z" } : Jvm.MethodName) prog_84_method_14_code (2 : Nat) (Option.some Jvm.ClassFile.FieldType.boolean)) ∈ lw_all := lw_g (lw_at lw_m4 212 rfl) rfl
theorem q1032 : (Jvm.Cond.methodLink "java/util/HashMap" (158 : Nat) ({ cls := "java/util/HashMap", name := "getNode", desc := "(Ljava/lang/Object;)Ljava/util/HashMap$Node;" } : Jvm.MethodName)) ∈ lw_all := lw_g (lw_at lw_m4 213 rfl) rfl
theorem q1033 : (Jvm.Cond.instanceMethod ({ cls := "java/util/HashMap", name := "getNode", desc := "(Ljava/lang/Object;)Ljava/util/HashMap$Node;" } : Jvm.MethodName)) ∈ lw_all := lw_g (lw_at lw_m4 214 rfl) rfl
theorem q1034 : (Jvm.Cond.selects "java/util/HashMap" ({ cls := "java/util/HashMap", name := "getNode", desc := "(Ljava/lang/Object;)Ljava/util/HashMap$Node;" } : Jvm.MethodName) ({ cls := "java/util/HashMap", name := "getNode", desc := "(Ljava/lang/Object;)Ljava/util/HashMap$Node;" } : Jvm.MethodName)) ∈ lw_all := lw_g (lw_at lw_m4 215 rfl) rfl
theorem q1035 : (Jvm.Cond.code ({ cls := "java/util/HashMap", name := "getNode", desc := "(Ljava/lang/Object;)Ljava/util/HashMap$Node;" } : Jvm.MethodName) prog_84_method_13_code (8 : Nat) (Option.some (Jvm.ClassFile.FieldType.object "java/util/HashMap$Node"))) ∈ lw_all := lw_g (lw_at lw_m4 216 rfl) rfl
theorem q1036 : (Jvm.Cond.methodLink "java/util/HashMap" (149 : Nat) ({ cls := "java/util/HashMap", name := "hash", desc := "(Ljava/lang/Object;)I" } : Jvm.MethodName)) ∈ lw_all := lw_g (lw_at lw_m4 217 rfl) rfl
theorem q1037 : (Jvm.Cond.static ({ cls := "java/util/HashMap", name := "hash", desc := "(Ljava/lang/Object;)I" } : Jvm.MethodName)) ∈ lw_all := lw_g (lw_at lw_m4 218 rfl) rfl
theorem q1038 : (Jvm.Cond.code ({ cls := "java/util/HashMap", name := "hash", desc := "(Ljava/lang/Object;)I" } : Jvm.MethodName) prog_84_method_1_code (2 : Nat) (Option.some Jvm.ClassFile.FieldType.int)) ∈ lw_all := lw_g (lw_at lw_m4 219 rfl) rfl
theorem q1040 : (Jvm.Cond.methodLink "java/util/HashMap" (1 : Nat) ({ cls := "java/lang/Object", name := "hashCode", desc := "()I" } : Jvm.MethodName)) ∈ lw_all := lw_g (lw_at lw_m4 221 rfl) rfl
theorem q1160 : (Jvm.Cond.methodLink "java/util/HashMap" (173 : Nat) ({ cls := "java/lang/Object", name := "equals", desc := "(Ljava/lang/Object;)Z" } : Jvm.MethodName)) ∈ lw_all := lw_g (lw_at lw_m5 101 rfl) rfl
theorem q1223 : (Jvm.Cond.classLink "java/util/HashMap" (180 : Nat) "java/util/HashMap$TreeNode") ∈ lw_all := lw_g (lw_at lw_m5 164 rfl) rfl
theorem q1224 : (Jvm.Cond.methodLink "java/util/HashMap" (182 : Nat) ({ cls := "java/util/HashMap$TreeNode", name := "getTreeNode", desc := "(ILjava/lang/Object;)Ljava/util/HashMap$TreeNode;" } : Jvm.MethodName)) ∈ lw_all := lw_g (lw_at lw_m5 165 rfl) rfl
theorem q1238 : (Jvm.Cond.static ({ cls := "java/util/HashMap", name := "comparableClassFor", desc := "(Ljava/lang/Object;)Ljava/lang/Class;" } : Jvm.MethodName)) ∈ lw_all := lw_g (lw_at lw_m5 179 rfl) rfl
theorem q1239 : (Jvm.Cond.code ({ cls := "java/util/HashMap", name := "comparableClassFor", desc := "(Ljava/lang/Object;)Ljava/lang/Class;" } : Jvm.MethodName) prog_84_method_2_code (9 : Nat) (Option.some (Jvm.ClassFile.FieldType.object "java/lang/Class"))) ∈ lw_all := lw_g (lw_at lw_m5 180 rfl) rfl
theorem q1240 : (Jvm.Cond.classLink "java/util/HashMap" (7 : Nat) "java/lang/Comparable") ∈ lw_all := lw_g (lw_at lw_m5 181 rfl) rfl
theorem q1241 : (Jvm.Cond.methodLink "java/util/HashMap" (9 : Nat) ({ cls := "java/lang/Object", name := "getClass", desc := "()Ljava/lang/Class;" } : Jvm.MethodName)) ∈ lw_all := lw_g (lw_at lw_m5 182 rfl) rfl
theorem q1242 : (Jvm.Cond.classLink "java/util/HashMap" (13 : Nat) "java/lang/String") ∈ lw_all := lw_g (lw_at lw_m5 183 rfl) rfl
theorem q1244 : (Jvm.Cond.static ({ cls := "java/util/HashMap", name := "compareComparables", desc := "(Ljava/lang/Class;Ljava/lang/Object;Ljava/lang/Object;)I" } : Jvm.MethodName)) ∈ lw_all := lw_g (lw_at lw_m5 185 rfl) rfl
theorem q1245 : (Jvm.Cond.code ({ cls := "java/util/HashMap", name := "compareComparables", desc := "(Ljava/lang/Class;Ljava/lang/Object;Ljava/lang/Object;)I" } : Jvm.MethodName) prog_84_method_3_code (3 : Nat) (Option.some Jvm.ClassFile.FieldType.int)) ∈ lw_all := lw_g (lw_at lw_m5 186 rfl) rfl
theorem q1246 : (Jvm.Cond.interfaceEntry "java/util/HashMap" (30 : Nat)) ∈ lw_tbl := lw_at lw_m5 187 rfl
theorem q1247 : (Jvm.Cond.methodLink "java/util/HashMap" (30 : Nat) ({ cls := "java/lang/Comparable", name := "compareTo", desc := "(Ljava/lang/Object;)I" } : Jvm.MethodName)) ∈ lw_all := lw_g (lw_at lw_m5 188 rfl) rfl
theorem q1543 : (Jvm.Cond.instanceMethod ({ cls := "java/util/HashMap", name := "size", desc := "()I" } : Jvm.MethodName)) ∈ lw_all := lw_g (lw_at lw_m7 4 rfl) rfl
theorem q1544 : (Jvm.Cond.selects "java/util/HashMap" ({ cls := "java/util/HashMap", name := "size", desc := "()I" } : Jvm.MethodName) ({ cls := "java/util/HashMap", name := "size", desc := "()I" } : Jvm.MethodName)) ∈ lw_all := lw_g (lw_at lw_m7 5 rfl) rfl
theorem q1545 : (Jvm.Cond.code ({ cls := "java/util/HashMap", name := "size", desc := "()I" } : Jvm.MethodName) prog_84_method_10_code (1 : Nat) (Option.some Jvm.ClassFile.FieldType.int)) ∈ lw_all := lw_g (lw_at lw_m7 6 rfl) rfl
theorem q1586 : (Jvm.Cond.instanceMethod ({ cls := "java/util/HashMap", name := "put", desc := "(Ljava/lang/Object;Ljava/lang/Object;)Ljava/lang/Object;" } : Jvm.MethodName)) ∈ lw_all := lw_g (lw_at lw_m7 47 rfl) rfl
theorem q1587 : (Jvm.Cond.selects "java/util/HashMap" ({ cls := "java/util/HashMap", name := "put", desc := "(Ljava/lang/Object;Ljava/lang/Object;)Ljava/lang/Object;" } : Jvm.MethodName) ({ cls := "java/util/HashMap", name := "put", desc := "(Ljava/lang/Object;Ljava/lang/Object;)Ljava/lang/Object;" } : Jvm.MethodName)) ∈ lw_all := lw_g (lw_at lw_m7 48 rfl) rfl
theorem q1588 : (Jvm.Cond.code ({ cls := "java/util/HashMap", name := "put", desc := "(Ljava/lang/Object;Ljava/lang/Object;)Ljava/lang/Object;" } : Jvm.MethodName) prog_84_method_15_code (3 : Nat) (Option.some (Jvm.ClassFile.FieldType.object "java/lang/Object"))) ∈ lw_all := lw_g (lw_at lw_m7 49 rfl) rfl
theorem q1589 : (Jvm.Cond.methodLink "java/util/HashMap" (152 : Nat) ({ cls := "java/util/HashMap", name := "putVal", desc := "(ILjava/lang/Object;Ljava/lang/Object;ZZ)Ljava/lang/Object;" } : Jvm.MethodName)) ∈ lw_all := lw_g (lw_at lw_m7 50 rfl) rfl
theorem q1590 : (Jvm.Cond.instanceMethod ({ cls := "java/util/HashMap", name := "putVal", desc := "(ILjava/lang/Object;Ljava/lang/Object;ZZ)Ljava/lang/Object;" } : Jvm.MethodName)) ∈ lw_all := lw_g (lw_at lw_m7 51 rfl) rfl
theorem q1591 : (Jvm.Cond.selects "java/util/HashMap" ({ cls := "java/util/HashMap", name := "putVal", desc := "(ILjava/lang/Object;Ljava/lang/Object;ZZ)Ljava/lang/Object;" } : Jvm.MethodName) ({ cls := "java/util/HashMap", name := "putVal", desc := "(ILjava/lang/Object;Ljava/lang/Object;ZZ)Ljava/lang/Object;" } : Jvm.MethodName)) ∈ lw_all := lw_g (lw_at lw_m7 52 rfl) rfl
theorem q1592 : (Jvm.Cond.code ({ cls := "java/util/HashMap", name := "putVal", desc := "(ILjava/lang/Object;Ljava/lang/Object;ZZ)Ljava/lang/Object;" } : Jvm.MethodName) prog_84_method_16_code (13 : Nat) (Option.some (Jvm.ClassFile.FieldType.object "java/lang/Object"))) ∈ lw_all := lw_g (lw_at lw_m7 53 rfl) rfl
theorem q1593 : (Jvm.Cond.methodLink "java/util/HashMap" (117 : Nat) ({ cls := "java/util/HashMap", name := "resize", desc := "()[Ljava/util/HashMap$Node;" } : Jvm.MethodName)) ∈ lw_all := lw_g (lw_at lw_m7 54 rfl) rfl
theorem q1594 : (Jvm.Cond.instanceMethod ({ cls := "java/util/HashMap", name := "resize", desc := "()[Ljava/util/HashMap$Node;" } : Jvm.MethodName)) ∈ lw_all := lw_g (lw_at lw_m7 55 rfl) rfl
theorem q1595 : (Jvm.Cond.selects "java/util/HashMap" ({ cls := "java/util/HashMap", name := "resize", desc := "()[Ljava/util/HashMap$Node;" } : Jvm.MethodName) ({ cls := "java/util/HashMap", name := "resize", desc := "()[Ljava/util/HashMap$Node;" } : Jvm.MethodName)) ∈ lw_all := lw_g (lw_at lw_m7 56 rfl) rfl
theorem q1596 : (Jvm.Cond.code ({ cls := "java/util/HashMap", name := "resize", desc := "()[Ljava/util/HashMap$Node;" } : Jvm.MethodName) prog_84_method_17_code (14 : Nat) (Option.some (Jvm.ClassFile.FieldType.array (Jvm.ClassFile.FieldType.object "java/util/HashMap$Node")))) ∈ lw_all := lw_g (lw_at lw_m7 57 rfl) rfl
theorem q1597 : (Jvm.Cond.constant "java/util/HashMap" (42 : Nat) (1073741824 : Int32)) ∈ lw_all := lw_g (lw_at lw_m7 58 rfl) rfl
theorem q1598 : (Jvm.Cond.constant "java/util/HashMap" (209 : Nat) (2147483647 : Int32)) ∈ lw_all := lw_g (lw_at lw_m7 59 rfl) rfl
theorem q1599 : (Jvm.Cond.constantFloat "java/util/HashMap" (210 : Nat) (1317011456 : UInt32)) ∈ lw_all := lw_g (lw_at lw_m7 60 rfl) rfl
theorem q1600 : (Jvm.Cond.classLink "java/util/HashMap" (163 : Nat) "java/util/HashMap$Node") ∈ lw_all := lw_g (lw_at lw_m7 61 rfl) rfl
theorem q1602 : (Jvm.Cond.methodLink "java/util/HashMap" (211 : Nat) ({ cls := "java/util/HashMap$TreeNode", name := "split", desc := "(Ljava/util/HashMap;[Ljava/util/HashMap$Node;II)V" } : Jvm.MethodName)) ∈ lw_all := lw_g (lw_at lw_m7 63 rfl) rfl
theorem q1612 : (Jvm.Cond.instanceMethod ({ cls := "java/util/HashMap", name := "replacementNode", desc := "(Ljava/util/HashMap$Node;Ljava/util/HashMap$Node;)Ljava/util/HashMap$Node;" } : Jvm.MethodName)) ∈ lw_all := lw_g (lw_at lw_m7 73 rfl) rfl
theorem q1613 : (Jvm.Cond.selects "java/util/HashMap" ({ cls := "java/util/HashMap", name := "replacementNode", desc := "(Ljava/util/HashMap$Node;Ljava/util/HashMap$Node;)Ljava/util/HashMap$Node;" } : Jvm.MethodName) ({ cls := "java/util/HashMap", name := "replacementNode", desc := "(Ljava/util/HashMap$Node;Ljava/util/HashMap$Node;)Ljava/util/HashMap$Node;" } : Jvm.MethodName)) ∈ lw_all := lw_g (lw_at lw_m7 74 rfl) rfl
theorem q1614 : (Jvm.Cond.code ({ cls := "java/util/HashMap", name := "replacementNode", desc := "(Ljava/util/HashMap$Node;Ljava/util/HashMap$Node;)Ljava/util/HashMap$Node;" } : Jvm.MethodName) prog_84_method_47_code (3 : Nat) (Option.some (Jvm.ClassFile.FieldType.object "java/util/HashMap$Node"))) ∈ lw_all := lw_g (lw_at lw_m7 75 rfl) rfl
theorem q1616 : (Jvm.Cond.methodLink "java/util/HashMap" (375 : Nat) ({ cls := "java/util/HashMap$Node", name := "<init>", desc := "(ILjava/lang/Object;Ljava/lang/Object;Ljava/util/HashMap$Node;)V" } : Jvm.MethodName)) ∈ lw_all := lw_g (lw_at lw_m7 77 rfl) rfl
theorem q1623 : (Jvm.Cond.fieldLink "java/util/HashMap" (168 : Nat) "java/util/HashMap$Node" "hash" "I") ∈ lw_all := lw_g (lw_at lw_m7 84 rfl) rfl
theorem q1627 : (Jvm.Cond.fieldLink "java/util/HashMap" (170 : Nat) "java/util/HashMap$Node" "key" "Ljava/lang/Object;") ∈ lw_all := lw_g (lw_at lw_m7 88 rfl) rfl
theorem q1629 : (Jvm.Cond.fieldLink "java/util/HashMap" (162 : Nat) "java/util/HashMap$Node" "value" "Ljava/lang/Object;") ∈ lw_all := lw_g (lw_at lw_m7 90 rfl) rfl
theorem q1634 : (Jvm.Cond.fieldLink "java/util/HashMap" (177 : Nat) "java/util/HashMap$Node" "next" "Ljava/util/HashMap$Node;") ∈ lw_all := lw_g (lw_at lw_m7 95 rfl) rfl
theorem q1635 : (Jvm.Cond.fieldLink "java/util/HashMap" (223 : Nat) "java/util/HashMap$TreeNode" "next" "Ljava/util/HashMap$Node;") ∈ lw_all := lw_g (lw_at lw_m7 96 rfl) rfl
theorem q1663 : (Jvm.Cond.methodLink "java/util/HashMap" (186 : Nat) ({ cls := "java/util/HashMap", name := "newNode", desc := "(ILjava/lang/Object;Ljava/lang/Object;Ljava/util/HashMap$Node;)Ljava/util/HashMap$Node;" } : Jvm.MethodName)) ∈ lw_all := lw_g (lw_at lw_m7 124 rfl) rfl
theorem q1664 : (Jvm.Cond.instanceMethod ({ cls := "java/util/HashMap", name := "newNode", desc := "(ILjava/lang/Object;Ljava/lang/Object;Ljava/util/HashMap$Node;)Ljava/util/HashMap$Node;" } : Jvm.MethodName)) ∈ lw_all := lw_g (lw_at lw_m7 125 rfl) rfl
theorem q1665 : (Jvm.Cond.selects "java/util/HashMap" ({ cls := "java/util/HashMap", name := "newNode", desc := "(ILjava/lang/Object;Ljava/lang/Object;Ljava/util/HashMap$Node;)Ljava/util/HashMap$Node;" } : Jvm.MethodName) ({ cls := "java/util/HashMap", name := "newNode", desc := "(ILjava/lang/Object;Ljava/lang/Object;Ljava/util/HashMap$Node;)Ljava/util/HashMap$Node;" } : Jvm.MethodName)) ∈ lw_all := lw_g (lw_at lw_m7 126 rfl) rfl
theorem q1666 : (Jvm.Cond.code ({ cls := "java/util/HashMap", name := "newNode", desc := "(ILjava/lang/Object;Ljava/lang/Object;Ljava/util/HashMap$Node;)Ljava/util/HashMap$Node;" } : Jvm.MethodName) prog_84_method_46_code (5 : Nat) (Option.some (Jvm.ClassFile.FieldType.object "java/util/HashMap$Node"))) ∈ lw_all := lw_g (lw_at lw_m7 127 rfl) rfl
theorem q1667 : (Jvm.Cond.methodLink "java/util/HashMap" (190 : Nat) ({ cls := "java/util/HashMap$TreeNode", name := "putTreeVal", desc := "(Ljava/util/HashMap;[Ljava/util/HashMap$Node;ILjava/lang/Object;Ljava/lang/Object;)Ljava/util/HashMap$TreeNode;" } : Jvm.MethodName)) ∈ lw_all := lw_g (lw_at lw_m7 128 rfl) rfl
theorem q1672 : (Jvm.Cond.instanceMethod ({ cls := "java/util/HashMap", name := "newTreeNode", desc := "(ILjava/lang/Object;Ljava/lang/Object;Ljava/util/HashMap$Node;)Ljava/util/HashMap$TreeNode;" } : Jvm.MethodName)) ∈ lw_all := lw_g (lw_at lw_m7 133 rfl) rfl
theorem q1673 : (Jvm.Cond.selects "java/util/HashMap" ({ cls := "java/util/HashMap", name := "newTreeNode", desc := "(ILjava/lang/Object;Ljava/lang/Object;Ljava/util/HashMap$Node;)Ljava/util/HashMap$TreeNode;" } : Jvm.MethodName) ({ cls := "java/util/HashMap", name := "newTreeNode", desc := "(ILjava/lang/Object;Ljava/lang/Object;Ljava/util/HashMap$Node;)Ljava/util/HashMap$TreeNode;" } : Jvm.MethodName)) ∈ lw_all := lw_g (lw_at lw_m7 134 rfl) rfl
theorem q1674 : (Jvm.Cond.code ({ cls := "java/util/HashMap", name := "newTreeNode", desc := "(ILjava/lang/Object;Ljava/lang/Object;Ljava/util/HashMap$Node;)Ljava/util/HashMap$TreeNode;" } : Jvm.MethodName) prog_84_method_48_code (5 : Nat) (Option.some (Jvm.ClassFile.FieldType.object "java/util/HashMap$TreeNode"))) ∈ lw_all := lw_g (lw_at lw_m7 135 rfl) rfl
theorem q1676 : (Jvm.Cond.methodLink "java/util/HashMap" (378 : Nat) ({ cls := "java/util/HashMap$TreeNode", name := "<init>", desc := "(ILjava/lang/Object;Ljava/lang/Object;Ljava/util/HashMap$Node;)V" } : Jvm.MethodName)) ∈ lw_all := lw_g (lw_at lw_m7 137 rfl) rfl
theorem q1687 : (Jvm.Cond.fieldLink "java/util/HashMap" (219 : Nat) "java/util/HashMap$TreeNode" "prev" "Ljava/util/HashMap$TreeNode;") ∈ lw_all := lw_g (lw_at lw_m7 148 rfl) rfl
theorem q1708 : (Jvm.Cond.methodLink "java/util/HashMap" (194 : Nat) ({ cls := "java/util/HashMap", name := "treeifyBin", desc := "([Ljava/util/HashMap$Node;I)V" } : Jvm.MethodName)) ∈ lw_all := lw_g (lw_at lw_m7 169 rfl) rfl
theorem q1709 : (Jvm.Cond.instanceMethod ({ cls := "java/util/HashMap", name := "treeifyBin", desc := "([Ljava/util/HashMap$Node;I)V" } : Jvm.MethodName)) ∈ lw_all := lw_g (lw_at lw_m7 170 rfl) rfl
theorem q1710 : (Jvm.Cond.selects "java/util/HashMap" ({ cls := "java/util/HashMap", name := "treeifyBin", desc := "([Ljava/util/HashMap$Node;I)V" } : Jvm.MethodName) ({ cls := "java/util/HashMap", name := "treeifyBin", desc := "([Ljava/util/HashMap$Node;I)V" } : Jvm.MethodName)) ∈ lw_all := lw_g (lw_at lw_m7 171 rfl) rfl
theorem q1711 : (Jvm.Cond.code ({ cls := "java/util/HashMap", name := "treeifyBin", desc := "([Ljava/util/HashMap$Node;I)V" } : Jvm.MethodName) prog_84_method_18_code (9 : Nat) (Option.none : Option Jvm.ClassFile.FieldType)) ∈ lw_all := lw_g (lw_at lw_m7 172 rfl) rfl
theorem q1712 : (Jvm.Cond.methodLink "java/util/HashMap" (215 : Nat) ({ cls := "java/util/HashMap", name := "replacementTreeNode", desc := "(Ljava/util/HashMap$Node;Ljava/util/HashMap$Node;)Ljava/util/HashMap$TreeNode;" } : Jvm.MethodName)) ∈ lw_all := lw_g (lw_at lw_m7 173 rfl) rfl
theorem q1713 : (Jvm.Cond.instanceMethod ({ cls := "java/util/HashMap", name := "replacementTreeNode", desc := "(Ljava/util/HashMap$Node;Ljava/util/HashMap$Node;)Ljava/util/HashMap$TreeNode;" } : Jvm.MethodName)) ∈ lw_all := lw_g (lw_at lw_m7 174 rfl) rfl
theorem q1714 : (Jvm.Cond.selects "java/util/HashMap" ({ cls := "java/util/HashMap", name := "replacementTreeNode", desc := "(Ljava/util/HashMap$Node;Ljava/util/HashMap$Node;)Ljava/util/HashMap$TreeNode;" } : Jvm.MethodName) ({ cls := "java/util/HashMap", name := "replacementTreeNode", desc := "(Ljava/util/HashMap$Node;Ljava/util/HashMap$Node;)Ljava/util/HashMap$TreeNode;" } : Jvm.MethodName)) ∈ lw_all := lw_g (lw_at lw_m7 175 rfl) rfl
theorem q1715 : (Jvm.Cond.code ({ cls := "java/util/HashMap", name := "replacementTreeNode", desc := "(Ljava/util/HashMap$Node;Ljava/util/HashMap$Node;)Ljava/util/HashMap$TreeNode;" } : Jvm.MethodName) prog_84_method_49_code (3 : Nat) (Option.some (Jvm.ClassFile.FieldType.object "java/util/HashMap$TreeNode"))) ∈ lw_all := lw_g (lw_at lw_m7 176 rfl) rfl
theorem q1716 : (Jvm.Cond.methodLink "java/util/HashMap" (224 : Nat) ({ cls := "java/util/HashMap$TreeNode", name := "treeify", desc := "([Ljava/util/HashMap$Node;)V" } : Jvm.MethodName)) ∈ lw_all := lw_g (lw_at lw_m7 177 rfl) rfl
theorem q1717 : (Jvm.Cond.methodLink "java/util/HashMap" (198 : Nat) ({ cls := "java/util/HashMap", name := "afterNodeAccess", desc := "(Ljava/util/HashMap$Node;)V" } : Jvm.MethodName)) ∈ lw_all := lw_g (lw_at lw_m7 178 rfl) rfl
theorem q1718 : (Jvm.Cond.instanceMethod ({ cls := "java/util/HashMap", name := "afterNodeAccess", desc := "(Ljava/util/HashMap$Node;)V" } : Jvm.MethodName)) ∈ lw_all := lw_g (lw_at lw_m7 179 rfl) rfl
theorem q1719 : (Jvm.Cond.selects "java/util/HashMap" ({ cls := "java/util/HashMap", name := "afterNodeAccess", desc := "(Ljava/util/HashMap$Node;)V" } : Jvm.MethodName) ({ cls := "java/util/HashMap", name := "afterNodeAccess", desc := "(Ljava/util/HashMap$Node;)V" } : Jvm.MethodName)) ∈ lw_all := lw_g (lw_at lw_m7 180 rfl) rfl
theorem q1720 : (Jvm.Cond.code ({ cls := "java/util/HashMap", name := "afterNodeAccess", desc := "(Ljava/util/HashMap$Node;)V" } : Jvm.MethodName) prog_84_method_51_code (2 : Nat) (Option.none : Option Jvm.ClassFile.FieldType)) ∈ lw_all := lw_g (lw_at lw_m7 181 rfl) rfl
theorem q1721 : (Jvm.Cond.methodLink "java/util/HashMap" (205 : Nat) ({ cls := "java/util/HashMap", name := "afterNodeInsertion", desc := "(Z)V" } : Jvm.MethodName)) ∈ lw_all := lw_g (lw_at lw_m7 182 rfl) rfl
theorem q1722 : (Jvm.Cond.instanceMethod ({ cls := "java/util/HashMap", name := "afterNodeInsertion", desc := "(Z)V" } : Jvm.MethodName)) ∈ lw_all := lw_g (lw_at lw_m7 183 rfl) rfl
theorem q1723 : (Jvm.Cond.selects "java/util/HashMap" ({ cls := "java/util/HashMap", name := "afterNodeInsertion", desc := "(Z)V" } : Jvm.MethodName) ({ cls := "java/util/HashMap", name := "afterNodeInsertion", desc := "(Z)V" } : Jvm.MethodName)) ∈ lw_all := lw_g (lw_at lw_m7 184 rfl) rfl
theorem q1724 : (Jvm.Cond.code ({ cls := "java/util/HashMap", name := "afterNodeInsertion", desc := "(Z)V" } : Jvm.MethodName) prog_84_method_52_code (2 : Nat) (Option.none : Option Jvm.ClassFile.FieldType)) ∈ lw_all := lw_g (lw_at lw_m7 185 rfl) rfl
theorem q1741 : (Jvm.Cond.instanceMethod ({ cls := "java/util/HashMap", name := "get", desc := "(Ljava/lang/Object;)Ljava/lang/Object;" } : Jvm.MethodName)) ∈ lw_all := lw_g (lw_at lw_m7 202 rfl) rfl
theorem q1742 : (Jvm.Cond.selects "java/util/HashMap" ({ cls := "java/util/HashMap", name := "get", desc := "(Ljava/lang/Object;)Ljava/lang/Object;" } : Jvm.MethodName) ({ cls := "java/util/HashMap", name := "get", desc := "(Ljava/lang/Object;)Ljava/lang/Object;" } : Jvm.MethodName)) ∈ lw_all := lw_g (lw_at lw_m7 203 rfl) rfl
theorem q1743 : (Jvm.Cond.code ({ cls := "java/util/HashMap", name := "get", desc := "(Ljava/lang/Object;)Ljava/lang/Object;" } : Jvm.MethodName) prog_84_method_12_code (3 : Nat) (Option.some (Jvm.ClassFile.FieldType.object "java/lang/Object"))) ∈ lw_all := lw_g (lw_at lw_m7 204 rfl) rfl
theorem q3416 : (Jvm.Cond.castable "java/util/HashMap" "java/lang/Object") ∈ lw_tbl := lw_at lw_m14 197 rfl
theorem in_J22 : ∀ w ∈ wsJ220, w ∈ lw_all := lw_in wsJ220 [885, 887, 873, 875, 877, 879, 881, 883] (by decide +kernel) (by decide +kernel)

/-! java/util/Objects -/
def RJ23 : String := "java/util/Objects"
abbrev cJ23_checkIndex : ByteArray := prog_92_method_17_code
def yJ23_checkIndex : MethodName := ⟨RJ23, "checkIndex", "(II)I"⟩
def dkwJ23_checkIndex_0 : List UInt8 := [26, 27, 1, 184, 0, 105, 172]
abbrev dktJ23_checkIndex_0 : List UInt8 := dkwJ23_checkIndex_0 ++ []
theorem dksJ23_checkIndex_0 : cJ23_checkIndex.data.toList.drop 0 = dktJ23_checkIndex_0 := by decide +kernel
theorem dJ23_checkIndex_0 : decode cJ23_checkIndex 0 = .ok (.iload_n 0, 1) := dk_26 (dk_at dksJ23_checkIndex_0 0 rfl rfl)
theorem dJ23_checkIndex_1 : decode cJ23_checkIndex 1 = .ok (.iload_n 1, 1) := dk_27 (dk_at dksJ23_checkIndex_0 1 rfl rfl)
theorem dJ23_checkIndex_2 : decode cJ23_checkIndex 2 = .ok (.aconst_null, 1) := dk_1 (dk_at dksJ23_checkIndex_0 2 rfl rfl)
theorem dJ23_checkIndex_3 : decode cJ23_checkIndex 3 = .ok (.invokestatic 105, 3) := dk_184 0 105 (dk_at dksJ23_checkIndex_0 3 rfl rfl)
theorem dJ23_checkIndex_6 : decode cJ23_checkIndex 6 = .ok (.ireturn, 1) := dk_172 (dk_at dksJ23_checkIndex_0 6 rfl rfl)
abbrev cJ23_requireNonNull : ByteArray := prog_92_method_10_code
def yJ23_requireNonNull : MethodName := ⟨RJ23, "requireNonNull", "(Ljava/lang/Object;)Ljava/lang/Object;"⟩
def dkwJ23_requireNonNull_0 : List UInt8 := [42, 199, 0, 11, 187, 0, 84, 89, 183, 0, 86, 191, 42, 176]
abbrev dktJ23_requireNonNull_0 : List UInt8 := dkwJ23_requireNonNull_0 ++ []
theorem dksJ23_requireNonNull_0 : cJ23_requireNonNull.data.toList.drop 0 = dktJ23_requireNonNull_0 := by decide +kernel
theorem dJ23_requireNonNull_0 : decode cJ23_requireNonNull 0 = .ok (.aload_n 0, 1) := dk_42 (dk_at dksJ23_requireNonNull_0 0 rfl rfl)
theorem dJ23_requireNonNull_1 : decode cJ23_requireNonNull 1 = .ok (.ifnonnull 11, 3) := dk_199 0 11 (dk_at dksJ23_requireNonNull_0 1 rfl rfl)
theorem dJ23_requireNonNull_4 : decode cJ23_requireNonNull 4 = .ok (.new 84, 3) := dk_187 0 84 (dk_at dksJ23_requireNonNull_0 4 rfl rfl)
theorem dJ23_requireNonNull_7 : decode cJ23_requireNonNull 7 = .ok (.dup, 1) := dk_89 (dk_at dksJ23_requireNonNull_0 7 rfl rfl)
theorem dJ23_requireNonNull_8 : decode cJ23_requireNonNull 8 = .ok (.invokespecial 86, 3) := dk_183 0 86 (dk_at dksJ23_requireNonNull_0 8 rfl rfl)
theorem dJ23_requireNonNull_11 : decode cJ23_requireNonNull 11 = .ok (.athrow, 1) := dk_191 (dk_at dksJ23_requireNonNull_0 11 rfl rfl)
theorem dJ23_requireNonNull_12 : decode cJ23_requireNonNull 12 = .ok (.aload_n 0, 1) := dk_42 (dk_at dksJ23_requireNonNull_0 12 rfl rfl)
theorem dJ23_requireNonNull_13 : decode cJ23_requireNonNull 13 = .ok (.areturn, 1) := dk_176 (dk_at dksJ23_requireNonNull_0 13 rfl rfl)
theorem q134 : (Jvm.Cond.initialized "java/util/Objects") ∈ lw_all := lw_g (lw_at lw_m1 35 rfl) rfl
theorem q937 : (Jvm.Cond.static ({ cls := "java/util/Objects", name := "checkIndex", desc := "(II)I" } : Jvm.MethodName)) ∈ lw_all := lw_g (lw_at lw_m4 118 rfl) rfl
theorem q938 : (Jvm.Cond.code ({ cls := "java/util/Objects", name := "checkIndex", desc := "(II)I" } : Jvm.MethodName) prog_92_method_17_code (2 : Nat) (Option.some Jvm.ClassFile.FieldType.int)) ∈ lw_all := lw_g (lw_at lw_m4 119 rfl) rfl
theorem q939 : (Jvm.Cond.methodLink "java/util/Objects" (105 : Nat) ({ cls := "jdk/internal/util/Preconditions", name := "checkIndex", desc := "(IILjava/util/function/BiFunction;)I" } : Jvm.MethodName)) ∈ lw_all := lw_g (lw_at lw_m4 120 rfl) rfl
theorem q2358 : (Jvm.Cond.static ({ cls := "java/util/Objects", name := "requireNonNull", desc := "(Ljava/lang/Object;)Ljava/lang/Object;" } : Jvm.MethodName)) ∈ lw_all := lw_g (lw_at lw_m10 99 rfl) rfl
theorem q2359 : (Jvm.Cond.code ({ cls := "java/util/Objects", name := "requireNonNull", desc := "(Ljava/lang/Object;)Ljava/lang/Object;" } : Jvm.MethodName) prog_92_method_10_code (1 : Nat) (Option.some (Jvm.ClassFile.FieldType.object "java/lang/Object"))) ∈ lw_all := lw_g (lw_at lw_m10 100 rfl) rfl

/-! java/util/HashMap$Node -/
def RJ26 : String := "java/util/HashMap$Node"
def TJ26 : u_T := fun k => match k with
  | 0 => ("java/util/HashMap$Node", "hash", "I", true)
  | 1 => ("java/util/HashMap$Node", "key", "Ljava/lang/Object;", true)
  | 2 => ("java/util/HashMap$Node", "value", "Ljava/lang/Object;", false)
  | _ => ("java/util/HashMap$Node", "next", "Ljava/util/HashMap$Node;", false)
def tyJ26 : Nat → FieldType := fun k => match k with
  | 0 => .int
  | 1 => .object "java/lang/Object"
  | 2 => .object "java/lang/Object"
  | _ => .object "java/util/HashMap$Node"
abbrev wsJ260 : List Cond := u_ws RJ26 TJ26 4
theorem nmJ26 : ∀ a, a < 4 → ∀ b, b < 4 → a ≠ b → (TJ26 a).2.1 ≠ (TJ26 b).2.1 := by decide +kernel
theorem tyJ26_ok : ∀ k, k < 4 → parseFieldDescriptor (TJ26 k).2.2.1 = some (tyJ26 k) := by decide +kernel
abbrev cJ26_init : ByteArray := prog_85_method_1_code
def yJ26_init : MethodName := ⟨RJ26, "<init>", "(ILjava/lang/Object;Ljava/lang/Object;Ljava/util/HashMap$Node;)V"⟩
def dkwJ26_init_1 : List UInt8 := [181, 0, 20, 177]
abbrev dktJ26_init_1 : List UInt8 := dkwJ26_init_1 ++ []
def dkwJ26_init_0 : List UInt8 := [42, 183, 0, 1, 42, 27, 181, 0, 7, 42, 44, 181, 0, 13, 42, 45, 181, 0, 17, 42, 25, 4]
abbrev dktJ26_init_0 : List UInt8 := dkwJ26_init_0 ++ dktJ26_init_1
theorem dksJ26_init_0 : cJ26_init.data.toList.drop 0 = dktJ26_init_0 := by decide +kernel
theorem dksJ26_init_1 : cJ26_init.data.toList.drop 22 = dktJ26_init_1 := dk_seg dksJ26_init_0 22 rfl rfl
theorem dJ26_init_0 : decode cJ26_init 0 = .ok (.aload_n 0, 1) := dk_42 (dk_at dksJ26_init_0 0 rfl rfl)
theorem dJ26_init_1 : decode cJ26_init 1 = .ok (.invokespecial 1, 3) := dk_183 0 1 (dk_at dksJ26_init_0 1 rfl rfl)
theorem dJ26_init_4 : decode cJ26_init 4 = .ok (.aload_n 0, 1) := dk_42 (dk_at dksJ26_init_0 4 rfl rfl)
theorem dJ26_init_5 : decode cJ26_init 5 = .ok (.iload_n 1, 1) := dk_27 (dk_at dksJ26_init_0 5 rfl rfl)
theorem dJ26_init_6 : decode cJ26_init 6 = .ok (.putfield 7, 3) := dk_181 0 7 (dk_at dksJ26_init_0 6 rfl rfl)
theorem dJ26_init_9 : decode cJ26_init 9 = .ok (.aload_n 0, 1) := dk_42 (dk_at dksJ26_init_0 9 rfl rfl)
theorem dJ26_init_10 : decode cJ26_init 10 = .ok (.aload_n 2, 1) := dk_44 (dk_at dksJ26_init_0 10 rfl rfl)
theorem dJ26_init_11 : decode cJ26_init 11 = .ok (.putfield 13, 3) := dk_181 0 13 (dk_at dksJ26_init_0 11 rfl rfl)
theorem dJ26_init_14 : decode cJ26_init 14 = .ok (.aload_n 0, 1) := dk_42 (dk_at dksJ26_init_0 14 rfl rfl)
theorem dJ26_init_15 : decode cJ26_init 15 = .ok (.aload_n 3, 1) := dk_45 (dk_at dksJ26_init_0 15 rfl rfl)
theorem dJ26_init_16 : decode cJ26_init 16 = .ok (.putfield 17, 3) := dk_181 0 17 (dk_at dksJ26_init_0 16 rfl rfl)
theorem dJ26_init_19 : decode cJ26_init 19 = .ok (.aload_n 0, 1) := dk_42 (dk_at dksJ26_init_0 19 rfl rfl)
theorem dJ26_init_20 : decode cJ26_init 20 = .ok (.aload 4, 2) := dk_25 4 (dk_at dksJ26_init_0 20 rfl rfl)
theorem dJ26_init_22 : decode cJ26_init 22 = .ok (.putfield 20, 3) := dk_181 0 20 (dk_at dksJ26_init_1 0 rfl rfl)
theorem dJ26_init_25 : decode cJ26_init 25 = .ok (.return_, 1) := dk_177 (dk_at dksJ26_init_1 3 rfl rfl)
theorem q141 : (Jvm.Cond.initialized "java/util/HashMap$Node") ∈ lw_all := lw_g (lw_at lw_m1 42 rfl) rfl
theorem q837 : (Jvm.Cond.selects "java/util/HashMap$Node" ({ cls := "java/lang/Object", name := "getClass", desc := "()Ljava/lang/Class;" } : Jvm.MethodName) ({ cls := "java/lang/Object", name := "getClass", desc := "()Ljava/lang/Class;" } : Jvm.MethodName)) ∈ lw_all := lw_g (lw_at lw_m4 18 rfl) rfl
theorem q1615 : (Jvm.Cond.instantiable "java/util/HashMap$Node" (4 : Nat)) ∈ lw_all := lw_g (lw_at lw_m7 76 rfl) rfl
theorem q1617 : (Jvm.Cond.instanceMethod ({ cls := "java/util/HashMap$Node", name := "<init>", desc := "(ILjava/lang/Object;Ljava/lang/Object;Ljava/util/HashMap$Node;)V" } : Jvm.MethodName)) ∈ lw_all := lw_g (lw_at lw_m7 78 rfl) rfl
theorem q1618 : (Jvm.Cond.code ({ cls := "java/util/HashMap$Node", name := "<init>", desc := "(ILjava/lang/Object;Ljava/lang/Object;Ljava/util/HashMap$Node;)V" } : Jvm.MethodName) prog_85_method_1_code (5 : Nat) (Option.none : Option Jvm.ClassFile.FieldType)) ∈ lw_all := lw_g (lw_at lw_m7 79 rfl) rfl
theorem q1619 : (Jvm.Cond.methodLink "java/util/HashMap$Node" (1 : Nat) ({ cls := "java/lang/Object", name := "<init>", desc := "()V" } : Jvm.MethodName)) ∈ lw_all := lw_g (lw_at lw_m7 80 rfl) rfl
theorem q1620 : (Jvm.Cond.fieldLink "java/util/HashMap$Node" (7 : Nat) "java/util/HashMap$Node" "hash" "I") ∈ lw_all := lw_g (lw_at lw_m7 81 rfl) rfl
theorem q1624 : (Jvm.Cond.fieldLink "java/util/HashMap$Node" (13 : Nat) "java/util/HashMap$Node" "key" "Ljava/lang/Object;") ∈ lw_all := lw_g (lw_at lw_m7 85 rfl) rfl
theorem q1628 : (Jvm.Cond.fieldLink "java/util/HashMap$Node" (17 : Nat) "java/util/HashMap$Node" "value" "Ljava/lang/Object;") ∈ lw_all := lw_g (lw_at lw_m7 89 rfl) rfl
theorem q1630 : (Jvm.Cond.fieldLink "java/util/HashMap$Node" (20 : Nat) "java/util/HashMap$Node" "next" "Ljava/util/HashMap$Node;") ∈ lw_all := lw_g (lw_at lw_m7 91 rfl) rfl
theorem q1636 : (Jvm.Cond.laysFinal "java/util/HashMap$Node" "java/util/HashMap$Node" "hash" "I") ∈ lw_all := lw_g (lw_at lw_m7 97 rfl) rfl
theorem q1637 : (Jvm.Cond.soleField "java/util/HashMap$Node" "hash") ∈ lw_all := lw_g (lw_at lw_m7 98 rfl) rfl
theorem q1638 : (Jvm.Cond.laysFinal "java/util/HashMap$Node" "java/util/HashMap$Node" "key" "Ljava/lang/Object;") ∈ lw_all := lw_g (lw_at lw_m7 99 rfl) rfl
theorem q1639 : (Jvm.Cond.soleField "java/util/HashMap$Node" "key") ∈ lw_all := lw_g (lw_at lw_m7 100 rfl) rfl
theorem q1640 : (Jvm.Cond.lays "java/util/HashMap$Node" "java/util/HashMap$Node" "value" "Ljava/lang/Object;") ∈ lw_all := lw_g (lw_at lw_m7 101 rfl) rfl
theorem q1641 : (Jvm.Cond.soleField "java/util/HashMap$Node" "value") ∈ lw_all := lw_g (lw_at lw_m7 102 rfl) rfl
theorem q1642 : (Jvm.Cond.lays "java/util/HashMap$Node" "java/util/HashMap$Node" "next" "Ljava/util/HashMap$Node;") ∈ lw_all := lw_g (lw_at lw_m7 103 rfl) rfl
theorem q1643 : (Jvm.Cond.soleField "java/util/HashMap$Node" "next") ∈ lw_all := lw_g (lw_at lw_m7 104 rfl) rfl
theorem q1644 : (Jvm.Cond.superclass "java/util/HashMap$Node" "java/lang/Object") ∈ lw_all := lw_g (lw_at lw_m7 105 rfl) rfl
theorem q3398 : (Jvm.Cond.castable "java/util/HashMap$Node" "java/lang/Object") ∈ lw_tbl := lw_at lw_m14 179 rfl
theorem in_J26 : ∀ w ∈ wsJ260, w ∈ lw_all := lw_in wsJ260 [1636, 1638, 1640, 1642] (by decide +kernel) (by decide +kernel)

/-! java/util/LinkedHashMap$Entry -/
def RJ27 : String := "java/util/LinkedHashMap$Entry"
abbrev cJ27_init : ByteArray := prog_88_method_1_code
def yJ27_init : MethodName := ⟨RJ27, "<init>", "(ILjava/lang/Object;Ljava/lang/Object;Ljava/util/HashMap$Node;)V"⟩
def dkwJ27_init_0 : List UInt8 := [42, 27, 44, 45, 25, 4, 183, 0, 1, 177]
abbrev dktJ27_init_0 : List UInt8 := dkwJ27_init_0 ++ []
theorem dksJ27_init_0 : cJ27_init.data.toList.drop 0 = dktJ27_init_0 := by decide +kernel
theorem dJ27_init_0 : decode cJ27_init 0 = .ok (.aload_n 0, 1) := dk_42 (dk_at dksJ27_init_0 0 rfl rfl)
theorem dJ27_init_1 : decode cJ27_init 1 = .ok (.iload_n 1, 1) := dk_27 (dk_at dksJ27_init_0 1 rfl rfl)
theorem dJ27_init_2 : decode cJ27_init 2 = .ok (.aload_n 2, 1) := dk_44 (dk_at dksJ27_init_0 2 rfl rfl)
theorem dJ27_init_3 : decode cJ27_init 3 = .ok (.aload_n 3, 1) := dk_45 (dk_at dksJ27_init_0 3 rfl rfl)
theorem dJ27_init_4 : decode cJ27_init 4 = .ok (.aload 4, 2) := dk_25 4 (dk_at dksJ27_init_0 4 rfl rfl)
theorem dJ27_init_6 : decode cJ27_init 6 = .ok (.invokespecial 1, 3) := dk_183 0 1 (dk_at dksJ27_init_0 6 rfl rfl)
theorem dJ27_init_9 : decode cJ27_init 9 = .ok (.return_, 1) := dk_177 (dk_at dksJ27_init_0 9 rfl rfl)
theorem q142 : (Jvm.Cond.initialized "java/util/LinkedHashMap$Entry") ∈ lw_all := lw_g (lw_at lw_m1 43 rfl) rfl
theorem q1680 : (Jvm.Cond.instanceMethod ({ cls := "java/util/LinkedHashMap$Entry", name := "<init>", desc := "(ILjava/lang/Object;Ljava/lang/Object;Ljava/util/HashMap$Node;)V" } : Jvm.MethodName)) ∈ lw_all := lw_g (lw_at lw_m7 141 rfl) rfl
theorem q1681 : (Jvm.Cond.code ({ cls := "java/util/LinkedHashMap$Entry", name := "<init>", desc := "(ILjava/lang/Object;Ljava/lang/Object;Ljava/util/HashMap$Node;)V" } : Jvm.MethodName) prog_88_method_1_code (5 : Nat) (Option.none : Option Jvm.ClassFile.FieldType)) ∈ lw_all := lw_g (lw_at lw_m7 142 rfl) rfl
theorem q1682 : (Jvm.Cond.methodLink "java/util/LinkedHashMap$Entry" (1 : Nat) ({ cls := "java/util/HashMap$Node", name := "<init>", desc := "(ILjava/lang/Object;Ljava/lang/Object;Ljava/util/HashMap$Node;)V" } : Jvm.MethodName)) ∈ lw_all := lw_g (lw_at lw_m7 143 rfl) rfl
theorem q1700 : (Jvm.Cond.soleField "java/util/LinkedHashMap$Entry" "before") ∈ lw_all := lw_g (lw_at lw_m7 161 rfl) rfl
theorem q1702 : (Jvm.Cond.soleField "java/util/LinkedHashMap$Entry" "after") ∈ lw_all := lw_g (lw_at lw_m7 163 rfl) rfl

/-! java/util/HashMap$TreeNode -/
def RJ28 : String := "java/util/HashMap$TreeNode"
def TJ28 : u_T := fun k => match k with
  | 0 => ("java/util/LinkedHashMap$Entry", "before", "Ljava/util/LinkedHashMap$Entry;", false)
  | 1 => ("java/util/LinkedHashMap$Entry", "after", "Ljava/util/LinkedHashMap$Entry;", false)
  | 2 => ("java/util/HashMap$Node", "hash", "I", true)
  | 3 => ("java/util/HashMap$Node", "key", "Ljava/lang/Object;", true)
  | 4 => ("java/util/HashMap$Node", "value", "Ljava/lang/Object;", false)
  | 5 => ("java/util/HashMap$Node", "next", "Ljava/util/HashMap$Node;", false)
  | 6 => ("java/util/HashMap$TreeNode", "parent", "Ljava/util/HashMap$TreeNode;", false)
  | 7 => ("java/util/HashMap$TreeNode", "left", "Ljava/util/HashMap$TreeNode;", false)
  | 8 => ("java/util/HashMap$TreeNode", "right", "Ljava/util/HashMap$TreeNode;", false)
  | 9 => ("java/util/HashMap$TreeNode", "prev", "Ljava/util/HashMap$TreeNode;", false)
  | _ => ("java/util/HashMap$TreeNode", "red", "Z", false)
def tyJ28 : Nat → FieldType := fun k => match k with
  | 0 => .object "java/util/LinkedHashMap$Entry"
  | 1 => .object "java/util/LinkedHashMap$Entry"
  | 2 => .int
  | 3 => .object "java/lang/Object"
  | 4 => .object "java/lang/Object"
  | 5 => .object "java/util/HashMap$Node"
  | 6 => .object "java/util/HashMap$TreeNode"
  | 7 => .object "java/util/HashMap$TreeNode"
  | 8 => .object "java/util/HashMap$TreeNode"
  | 9 => .object "java/util/HashMap$TreeNode"
  | _ => .boolean
abbrev wsJ280 : List Cond := u_ws RJ28 TJ28 11
theorem nmJ28 : ∀ a, a < 11 → ∀ b, b < 11 → a ≠ b → (TJ28 a).2.1 ≠ (TJ28 b).2.1 := by decide +kernel
theorem tyJ28_ok : ∀ k, k < 11 → parseFieldDescriptor (TJ28 k).2.2.1 = some (tyJ28 k) := by decide +kernel
abbrev cJ28_getTreeNode : ByteArray := prog_86_method_5_code
def yJ28_getTreeNode : MethodName := ⟨RJ28, "getTreeNode", "(ILjava/lang/Object;)Ljava/util/HashMap$TreeNode;"⟩
def dkwJ28_getTreeNode_0 : List UInt8 := [42, 180, 0, 9, 198, 0, 10, 42, 182, 0, 67, 167, 0, 4, 42, 27, 44, 1, 182, 0, 63, 176]
abbrev dktJ28_getTreeNode_0 : List UInt8 := dkwJ28_getTreeNode_0 ++ []
theorem dksJ28_getTreeNode_0 : cJ28_getTreeNode.data.toList.drop 0 = dktJ28_getTreeNode_0 := by decide +kernel
theorem dJ28_getTreeNode_0 : decode cJ28_getTreeNode 0 = .ok (.aload_n 0, 1) := dk_42 (dk_at dksJ28_getTreeNode_0 0 rfl rfl)
theorem dJ28_getTreeNode_1 : decode cJ28_getTreeNode 1 = .ok (.getfield 9, 3) := dk_180 0 9 (dk_at dksJ28_getTreeNode_0 1 rfl rfl)
theorem dJ28_getTreeNode_4 : decode cJ28_getTreeNode 4 = .ok (.ifnull 10, 3) := dk_198 0 10 (dk_at dksJ28_getTreeNode_0 4 rfl rfl)
theorem dJ28_getTreeNode_7 : decode cJ28_getTreeNode 7 = .ok (.aload_n 0, 1) := dk_42 (dk_at dksJ28_getTreeNode_0 7 rfl rfl)
theorem dJ28_getTreeNode_8 : decode cJ28_getTreeNode 8 = .ok (.invokevirtual 67, 3) := dk_182 0 67 (dk_at dksJ28_getTreeNode_0 8 rfl rfl)
theorem dJ28_getTreeNode_11 : decode cJ28_getTreeNode 11 = .ok (.goto 4, 3) := dk_167 0 4 (dk_at dksJ28_getTreeNode_0 11 rfl rfl)
theorem dJ28_getTreeNode_14 : decode cJ28_getTreeNode 14 = .ok (.aload_n 0, 1) := dk_42 (dk_at dksJ28_getTreeNode_0 14 rfl rfl)
theorem dJ28_getTreeNode_15 : decode cJ28_getTreeNode 15 = .ok (.iload_n 1, 1) := dk_27 (dk_at dksJ28_getTreeNode_0 15 rfl rfl)
theorem dJ28_getTreeNode_16 : decode cJ28_getTreeNode 16 = .ok (.aload_n 2, 1) := dk_44 (dk_at dksJ28_getTreeNode_0 16 rfl rfl)
theorem dJ28_getTreeNode_17 : decode cJ28_getTreeNode 17 = .ok (.aconst_null, 1) := dk_1 (dk_at dksJ28_getTreeNode_0 17 rfl rfl)
theorem dJ28_getTreeNode_18 : decode cJ28_getTreeNode 18 = .ok (.invokevirtual 63, 3) := dk_182 0 63 (dk_at dksJ28_getTreeNode_0 18 rfl rfl)
theorem dJ28_getTreeNode_21 : decode cJ28_getTreeNode 21 = .ok (.areturn, 1) := dk_176 (dk_at dksJ28_getTreeNode_0 21 rfl rfl)
abbrev cJ28_root : ByteArray := prog_86_method_2_code
def yJ28_root : MethodName := ⟨RJ28, "root", "()Ljava/util/HashMap$TreeNode;"⟩
def dkwJ28_root_0 : List UInt8 := [42, 76, 43, 180, 0, 9, 89, 77, 199, 0, 5, 43, 176, 44, 76, 167, 255, 243]
abbrev dktJ28_root_0 : List UInt8 := dkwJ28_root_0 ++ []
theorem dksJ28_root_0 : cJ28_root.data.toList.drop 0 = dktJ28_root_0 := by decide +kernel
theorem dJ28_root_0 : decode cJ28_root 0 = .ok (.aload_n 0, 1) := dk_42 (dk_at dksJ28_root_0 0 rfl rfl)
theorem dJ28_root_1 : decode cJ28_root 1 = .ok (.astore_n 1, 1) := dk_76 (dk_at dksJ28_root_0 1 rfl rfl)
theorem dJ28_root_2 : decode cJ28_root 2 = .ok (.aload_n 1, 1) := dk_43 (dk_at dksJ28_root_0 2 rfl rfl)
theorem dJ28_root_3 : decode cJ28_root 3 = .ok (.getfield 9, 3) := dk_180 0 9 (dk_at dksJ28_root_0 3 rfl rfl)
theorem dJ28_root_6 : decode cJ28_root 6 = .ok (.dup, 1) := dk_89 (dk_at dksJ28_root_0 6 rfl rfl)
theorem dJ28_root_7 : decode cJ28_root 7 = .ok (.astore_n 2, 1) := dk_77 (dk_at dksJ28_root_0 7 rfl rfl)
theorem dJ28_root_8 : decode cJ28_root 8 = .ok (.ifnonnull 5, 3) := dk_199 0 5 (dk_at dksJ28_root_0 8 rfl rfl)
theorem dJ28_root_11 : decode cJ28_root 11 = .ok (.aload_n 1, 1) := dk_43 (dk_at dksJ28_root_0 11 rfl rfl)
theorem dJ28_root_12 : decode cJ28_root 12 = .ok (.areturn, 1) := dk_176 (dk_at dksJ28_root_0 12 rfl rfl)
theorem dJ28_root_13 : decode cJ28_root 13 = .ok (.aload_n 2, 1) := dk_44 (dk_at dksJ28_root_0 13 rfl rfl)
theorem dJ28_root_14 : decode cJ28_root 14 = .ok (.astore_n 1, 1) := dk_76 (dk_at dksJ28_root_0 14 rfl rfl)
theorem dJ28_root_15 : decode cJ28_root 15 = .ok (.goto (-13), 3) := dk_167 255 243 (dk_at dksJ28_root_0 15 rfl rfl)
abbrev cJ28_find : ByteArray := prog_86_method_4_code
def yJ28_find : MethodName := ⟨RJ28, "find", "(ILjava/lang/Object;Ljava/lang/Class;)Ljava/util/HashMap$TreeNode;"⟩
def dkwJ28_find_7 : List UInt8 := [58, 4, 25, 4, 199, 255, 92, 1, 176]
abbrev dktJ28_find_7 : List UInt8 := dkwJ28_find_7 ++ []
def dkwJ28_find_6 : List UInt8 := [58, 4, 167, 0, 24, 25, 9, 27, 44, 45, 182, 0, 63, 89, 58, 10, 198, 0, 6, 25, 10, 176, 25, 8]
abbrev dktJ28_find_6 : List UInt8 := dkwJ28_find_6 ++ dktJ28_find_7
def dkwJ28_find_5 : List UInt8 := [44, 25, 7, 184, 0, 59, 89, 54, 6, 153, 0, 20, 21, 6, 156, 0, 8, 25, 8, 167, 0, 5, 25, 9]
abbrev dktJ28_find_5 : List UInt8 := dkwJ28_find_5 ++ dktJ28_find_6
def dkwJ28_find_4 : List UInt8 := [199, 0, 10, 25, 8, 58, 4, 167, 0, 67, 45, 199, 0, 12, 44, 184, 0, 55, 89, 78, 198, 0, 33, 45]
abbrev dktJ28_find_4 : List UInt8 := dkwJ28_find_4 ++ dktJ28_find_5
def dkwJ28_find_3 : List UInt8 := [182, 0, 49, 153, 0, 6, 25, 4, 176, 25, 8, 199, 0, 10, 25, 9, 58, 4, 167, 0, 79, 25, 9]
abbrev dktJ28_find_3 : List UInt8 := dkwJ28_find_3 ++ dktJ28_find_4
def dkwJ28_find_2 : List UInt8 := [167, 0, 119, 25, 4, 180, 0, 45, 89, 58, 7, 44, 165, 0, 16, 44, 198, 0, 15, 44, 25, 7]
abbrev dktJ28_find_2 : List UInt8 := dkwJ28_find_2 ++ dktJ28_find_3
def dkwJ28_find_1 : List UInt8 := [54, 5, 27, 164, 0, 10, 25, 8, 58, 4, 167, 0, 132, 21, 5, 27, 162, 0, 10, 25, 9, 58, 4]
abbrev dktJ28_find_1 : List UInt8 := dkwJ28_find_1 ++ dktJ28_find_2
def dkwJ28_find_0 : List UInt8 := [42, 58, 4, 25, 4, 180, 0, 39, 58, 8, 25, 4, 180, 0, 42, 58, 9, 25, 4, 180, 0, 15, 89]
abbrev dktJ28_find_0 : List UInt8 := dkwJ28_find_0 ++ dktJ28_find_1
theorem dksJ28_find_0 : cJ28_find.data.toList.drop 0 = dktJ28_find_0 := by decide +kernel
theorem dksJ28_find_1 : cJ28_find.data.toList.drop 23 = dktJ28_find_1 := dk_seg dksJ28_find_0 23 rfl rfl
theorem dksJ28_find_2 : cJ28_find.data.toList.drop 46 = dktJ28_find_2 := dk_seg dksJ28_find_1 23 rfl rfl
theorem dksJ28_find_3 : cJ28_find.data.toList.drop 68 = dktJ28_find_3 := dk_seg dksJ28_find_2 22 rfl rfl
theorem dksJ28_find_4 : cJ28_find.data.toList.drop 91 = dktJ28_find_4 := dk_seg dksJ28_find_3 23 rfl rfl
theorem dksJ28_find_5 : cJ28_find.data.toList.drop 115 = dktJ28_find_5 := dk_seg dksJ28_find_4 24 rfl rfl
theorem dksJ28_find_6 : cJ28_find.data.toList.drop 139 = dktJ28_find_6 := dk_seg dksJ28_find_5 24 rfl rfl
theorem dksJ28_find_7 : cJ28_find.data.toList.drop 163 = dktJ28_find_7 := dk_seg dksJ28_find_6 24 rfl rfl
theorem dJ28_find_0 : decode cJ28_find 0 = .ok (.aload_n 0, 1) := dk_42 (dk_at dksJ28_find_0 0 rfl rfl)
theorem dJ28_find_1 : decode cJ28_find 1 = .ok (.astore 4, 2) := dk_58 4 (dk_at dksJ28_find_0 1 rfl rfl)
theorem dJ28_find_3 : decode cJ28_find 3 = .ok (.aload 4, 2) := dk_25 4 (dk_at dksJ28_find_0 3 rfl rfl)
theorem dJ28_find_5 : decode cJ28_find 5 = .ok (.getfield 39, 3) := dk_180 0 39 (dk_at dksJ28_find_0 5 rfl rfl)
theorem dJ28_find_8 : decode cJ28_find 8 = .ok (.astore 8, 2) := dk_58 8 (dk_at dksJ28_find_0 8 rfl rfl)
theorem dJ28_find_10 : decode cJ28_find 10 = .ok (.aload 4, 2) := dk_25 4 (dk_at dksJ28_find_0 10 rfl rfl)
theorem dJ28_find_12 : decode cJ28_find 12 = .ok (.getfield 42, 3) := dk_180 0 42 (dk_at dksJ28_find_0 12 rfl rfl)
theorem dJ28_find_15 : decode cJ28_find 15 = .ok (.astore 9, 2) := dk_58 9 (dk_at dksJ28_find_0 15 rfl rfl)
theorem dJ28_find_17 : decode cJ28_find 17 = .ok (.aload 4, 2) := dk_25 4 (dk_at dksJ28_find_0 17 rfl rfl)
theorem dJ28_find_19 : decode cJ28_find 19 = .ok (.getfield 15, 3) := dk_180 0 15 (dk_at dksJ28_find_0 19 rfl rfl)
theorem dJ28_find_22 : decode cJ28_find 22 = .ok (.dup, 1) := dk_89 (dk_at dksJ28_find_0 22 rfl rfl)
theorem dJ28_find_23 : decode cJ28_find 23 = .ok (.istore 5, 2) := dk_54 5 (dk_at dksJ28_find_1 0 rfl rfl)
theorem dJ28_find_25 : decode cJ28_find 25 = .ok (.iload_n 1, 1) := dk_27 (dk_at dksJ28_find_1 2 rfl rfl)
theorem dJ28_find_26 : decode cJ28_find 26 = .ok (.if_icmp .le 10, 3) := dk_164 0 10 (dk_at dksJ28_find_1 3 rfl rfl)
theorem dJ28_find_29 : decode cJ28_find 29 = .ok (.aload 8, 2) := dk_25 8 (dk_at dksJ28_find_1 6 rfl rfl)
theorem dJ28_find_31 : decode cJ28_find 31 = .ok (.astore 4, 2) := dk_58 4 (dk_at dksJ28_find_1 8 rfl rfl)
theorem dJ28_find_33 : decode cJ28_find 33 = .ok (.goto 132, 3) := dk_167 0 132 (dk_at dksJ28_find_1 10 rfl rfl)
theorem dJ28_find_36 : decode cJ28_find 36 = .ok (.iload 5, 2) := dk_21 5 (dk_at dksJ28_find_1 13 rfl rfl)
theorem dJ28_find_38 : decode cJ28_find 38 = .ok (.iload_n 1, 1) := dk_27 (dk_at dksJ28_find_1 15 rfl rfl)
theorem dJ28_find_39 : decode cJ28_find 39 = .ok (.if_icmp .ge 10, 3) := dk_162 0 10 (dk_at dksJ28_find_1 16 rfl rfl)
theorem dJ28_find_42 : decode cJ28_find 42 = .ok (.aload 9, 2) := dk_25 9 (dk_at dksJ28_find_1 19 rfl rfl)
theorem dJ28_find_44 : decode cJ28_find 44 = .ok (.astore 4, 2) := dk_58 4 (dk_at dksJ28_find_1 21 rfl rfl)
theorem dJ28_find_46 : decode cJ28_find 46 = .ok (.goto 119, 3) := dk_167 0 119 (dk_at dksJ28_find_2 0 rfl rfl)
theorem dJ28_find_49 : decode cJ28_find 49 = .ok (.aload 4, 2) := dk_25 4 (dk_at dksJ28_find_2 3 rfl rfl)
theorem dJ28_find_51 : decode cJ28_find 51 = .ok (.getfield 45, 3) := dk_180 0 45 (dk_at dksJ28_find_2 5 rfl rfl)
theorem dJ28_find_54 : decode cJ28_find 54 = .ok (.dup, 1) := dk_89 (dk_at dksJ28_find_2 8 rfl rfl)
theorem dJ28_find_55 : decode cJ28_find 55 = .ok (.astore 7, 2) := dk_58 7 (dk_at dksJ28_find_2 9 rfl rfl)
theorem dJ28_find_57 : decode cJ28_find 57 = .ok (.aload_n 2, 1) := dk_44 (dk_at dksJ28_find_2 11 rfl rfl)
theorem dJ28_find_58 : decode cJ28_find 58 = .ok (.if_acmp .eq 16, 3) := dk_165 0 16 (dk_at dksJ28_find_2 12 rfl rfl)
theorem dJ28_find_61 : decode cJ28_find 61 = .ok (.aload_n 2, 1) := dk_44 (dk_at dksJ28_find_2 15 rfl rfl)
theorem dJ28_find_62 : decode cJ28_find 62 = .ok (.ifnull 15, 3) := dk_198 0 15 (dk_at dksJ28_find_2 16 rfl rfl)
theorem dJ28_find_65 : decode cJ28_find 65 = .ok (.aload_n 2, 1) := dk_44 (dk_at dksJ28_find_2 19 rfl rfl)
theorem dJ28_find_66 : decode cJ28_find 66 = .ok (.aload 7, 2) := dk_25 7 (dk_at dksJ28_find_2 20 rfl rfl)
theorem dJ28_find_68 : decode cJ28_find 68 = .ok (.invokevirtual 49, 3) := dk_182 0 49 (dk_at dksJ28_find_3 0 rfl rfl)
theorem dJ28_find_71 : decode cJ28_find 71 = .ok (.ifCond .eq 6, 3) := dk_153 0 6 (dk_at dksJ28_find_3 3 rfl rfl)
theorem dJ28_find_74 : decode cJ28_find 74 = .ok (.aload 4, 2) := dk_25 4 (dk_at dksJ28_find_3 6 rfl rfl)
theorem dJ28_find_76 : decode cJ28_find 76 = .ok (.areturn, 1) := dk_176 (dk_at dksJ28_find_3 8 rfl rfl)
theorem dJ28_find_77 : decode cJ28_find 77 = .ok (.aload 8, 2) := dk_25 8 (dk_at dksJ28_find_3 9 rfl rfl)
theorem dJ28_find_79 : decode cJ28_find 79 = .ok (.ifnonnull 10, 3) := dk_199 0 10 (dk_at dksJ28_find_3 11 rfl rfl)
theorem dJ28_find_82 : decode cJ28_find 82 = .ok (.aload 9, 2) := dk_25 9 (dk_at dksJ28_find_3 14 rfl rfl)
theorem dJ28_find_84 : decode cJ28_find 84 = .ok (.astore 4, 2) := dk_58 4 (dk_at dksJ28_find_3 16 rfl rfl)
theorem dJ28_find_86 : decode cJ28_find 86 = .ok (.goto 79, 3) := dk_167 0 79 (dk_at dksJ28_find_3 18 rfl rfl)
theorem dJ28_find_89 : decode cJ28_find 89 = .ok (.aload 9, 2) := dk_25 9 (dk_at dksJ28_find_3 21 rfl rfl)
theorem dJ28_find_91 : decode cJ28_find 91 = .ok (.ifnonnull 10, 3) := dk_199 0 10 (dk_at dksJ28_find_4 0 rfl rfl)
theorem dJ28_find_94 : decode cJ28_find 94 = .ok (.aload 8, 2) := dk_25 8 (dk_at dksJ28_find_4 3 rfl rfl)
theorem dJ28_find_96 : decode cJ28_find 96 = .ok (.astore 4, 2) := dk_58 4 (dk_at dksJ28_find_4 5 rfl rfl)
theorem dJ28_find_98 : decode cJ28_find 98 = .ok (.goto 67, 3) := dk_167 0 67 (dk_at dksJ28_find_4 7 rfl rfl)
theorem dJ28_find_101 : decode cJ28_find 101 = .ok (.aload_n 3, 1) := dk_45 (dk_at dksJ28_find_4 10 rfl rfl)
theorem dJ28_find_102 : decode cJ28_find 102 = .ok (.ifnonnull 12, 3) := dk_199 0 12 (dk_at dksJ28_find_4 11 rfl rfl)
theorem dJ28_find_105 : decode cJ28_find 105 = .ok (.aload_n 2, 1) := dk_44 (dk_at dksJ28_find_4 14 rfl rfl)
theorem dJ28_find_106 : decode cJ28_find 106 = .ok (.invokestatic 55, 3) := dk_184 0 55 (dk_at dksJ28_find_4 15 rfl rfl)
theorem dJ28_find_109 : decode cJ28_find 109 = .ok (.dup, 1) := dk_89 (dk_at dksJ28_find_4 18 rfl rfl)
theorem dJ28_find_110 : decode cJ28_find 110 = .ok (.astore_n 3, 1) := dk_78 (dk_at dksJ28_find_4 19 rfl rfl)
theorem dJ28_find_111 : decode cJ28_find 111 = .ok (.ifnull 33, 3) := dk_198 0 33 (dk_at dksJ28_find_4 20 rfl rfl)
theorem dJ28_find_114 : decode cJ28_find 114 = .ok (.aload_n 3, 1) := dk_45 (dk_at dksJ28_find_4 23 rfl rfl)
theorem dJ28_find_115 : decode cJ28_find 115 = .ok (.aload_n 2, 1) := dk_44 (dk_at dksJ28_find_5 0 rfl rfl)
theorem dJ28_find_116 : decode cJ28_find 116 = .ok (.aload 7, 2) := dk_25 7 (dk_at dksJ28_find_5 1 rfl rfl)
theorem dJ28_find_118 : decode cJ28_find 118 = .ok (.invokestatic 59, 3) := dk_184 0 59 (dk_at dksJ28_find_5 3 rfl rfl)
theorem dJ28_find_121 : decode cJ28_find 121 = .ok (.dup, 1) := dk_89 (dk_at dksJ28_find_5 6 rfl rfl)
theorem dJ28_find_122 : decode cJ28_find 122 = .ok (.istore 6, 2) := dk_54 6 (dk_at dksJ28_find_5 7 rfl rfl)
theorem dJ28_find_124 : decode cJ28_find 124 = .ok (.ifCond .eq 20, 3) := dk_153 0 20 (dk_at dksJ28_find_5 9 rfl rfl)
theorem dJ28_find_127 : decode cJ28_find 127 = .ok (.iload 6, 2) := dk_21 6 (dk_at dksJ28_find_5 12 rfl rfl)
theorem dJ28_find_129 : decode cJ28_find 129 = .ok (.ifCond .ge 8, 3) := dk_156 0 8 (dk_at dksJ28_find_5 14 rfl rfl)
theorem dJ28_find_132 : decode cJ28_find 132 = .ok (.aload 8, 2) := dk_25 8 (dk_at dksJ28_find_5 17 rfl rfl)
theorem dJ28_find_134 : decode cJ28_find 134 = .ok (.goto 5, 3) := dk_167 0 5 (dk_at dksJ28_find_5 19 rfl rfl)
theorem dJ28_find_137 : decode cJ28_find 137 = .ok (.aload 9, 2) := dk_25 9 (dk_at dksJ28_find_5 22 rfl rfl)
theorem dJ28_find_139 : decode cJ28_find 139 = .ok (.astore 4, 2) := dk_58 4 (dk_at dksJ28_find_6 0 rfl rfl)
theorem dJ28_find_141 : decode cJ28_find 141 = .ok (.goto 24, 3) := dk_167 0 24 (dk_at dksJ28_find_6 2 rfl rfl)
theorem dJ28_find_144 : decode cJ28_find 144 = .ok (.aload 9, 2) := dk_25 9 (dk_at dksJ28_find_6 5 rfl rfl)
theorem dJ28_find_146 : decode cJ28_find 146 = .ok (.iload_n 1, 1) := dk_27 (dk_at dksJ28_find_6 7 rfl rfl)
theorem dJ28_find_147 : decode cJ28_find 147 = .ok (.aload_n 2, 1) := dk_44 (dk_at dksJ28_find_6 8 rfl rfl)
theorem dJ28_find_148 : decode cJ28_find 148 = .ok (.aload_n 3, 1) := dk_45 (dk_at dksJ28_find_6 9 rfl rfl)
theorem dJ28_find_149 : decode cJ28_find 149 = .ok (.invokevirtual 63, 3) := dk_182 0 63 (dk_at dksJ28_find_6 10 rfl rfl)
theorem dJ28_find_152 : decode cJ28_find 152 = .ok (.dup, 1) := dk_89 (dk_at dksJ28_find_6 13 rfl rfl)
theorem dJ28_find_153 : decode cJ28_find 153 = .ok (.astore 10, 2) := dk_58 10 (dk_at dksJ28_find_6 14 rfl rfl)
theorem dJ28_find_155 : decode cJ28_find 155 = .ok (.ifnull 6, 3) := dk_198 0 6 (dk_at dksJ28_find_6 16 rfl rfl)
theorem dJ28_find_158 : decode cJ28_find 158 = .ok (.aload 10, 2) := dk_25 10 (dk_at dksJ28_find_6 19 rfl rfl)
theorem dJ28_find_160 : decode cJ28_find 160 = .ok (.areturn, 1) := dk_176 (dk_at dksJ28_find_6 21 rfl rfl)
theorem dJ28_find_161 : decode cJ28_find 161 = .ok (.aload 8, 2) := dk_25 8 (dk_at dksJ28_find_6 22 rfl rfl)
theorem dJ28_find_163 : decode cJ28_find 163 = .ok (.astore 4, 2) := dk_58 4 (dk_at dksJ28_find_7 0 rfl rfl)
theorem dJ28_find_165 : decode cJ28_find 165 = .ok (.aload 4, 2) := dk_25 4 (dk_at dksJ28_find_7 2 rfl rfl)
theorem dJ28_find_167 : decode cJ28_find 167 = .ok (.ifnonnull (-164), 3) := dk_199 255 92 (dk_at dksJ28_find_7 4 rfl rfl)
theorem dJ28_find_170 : decode cJ28_find 170 = .ok (.aconst_null, 1) := dk_1 (dk_at dksJ28_find_7 7 rfl rfl)
theorem dJ28_find_171 : decode cJ28_find 171 = .ok (.areturn, 1) := dk_176 (dk_at dksJ28_find_7 8 rfl rfl)
abbrev cJ28_split : ByteArray := prog_86_method_11_code
def yJ28_split : MethodName := ⟨RJ28, "split", "(Ljava/util/HashMap;[Ljava/util/HashMap$Node;II)V"⟩
def dkwJ28_split_9 : List UInt8 := [198, 0, 9, 25, 8, 44, 182, 0, 126, 177]
abbrev dktJ28_split_9 : List UInt8 := dkwJ28_split_9 ++ []
def dkwJ28_split_8 : List UInt8 := [21, 4, 96, 25, 8, 43, 182, 0, 119, 83, 167, 0, 22, 44, 29, 21, 4, 96, 25, 8, 83, 25, 6]
abbrev dktJ28_split_8 : List UInt8 := dkwJ28_split_8 ++ dktJ28_split_9
def dkwJ28_split_7 : List UInt8 := [198, 0, 9, 25, 6, 44, 182, 0, 126, 25, 8, 198, 0, 44, 21, 11, 16, 6, 163, 0, 18, 44, 29]
abbrev dktJ28_split_7 : List UInt8 := dkwJ28_split_7 ++ dktJ28_split_8
def dkwJ28_split_6 : List UInt8 := [163, 0, 15, 44, 29, 25, 6, 43, 182, 0, 119, 83, 167, 0, 19, 44, 29, 25, 6, 83, 25, 8]
abbrev dktJ28_split_6 : List UInt8 := dkwJ28_split_6 ++ dktJ28_split_7
def dkwJ28_split_5 : List UInt8 := [25, 12, 58, 9, 132, 11, 1, 25, 13, 58, 12, 167, 255, 153, 25, 6, 198, 0, 38, 21, 10, 16, 6]
abbrev dktJ28_split_5 : List UInt8 := dkwJ28_split_5 ++ dktJ28_split_6
def dkwJ28_split_4 : List UInt8 := [25, 9, 90, 181, 0, 19, 199, 0, 10, 25, 12, 58, 8, 167, 0, 10, 25, 9, 25, 12, 181, 0, 22]
abbrev dktJ28_split_4 : List UInt8 := dkwJ28_split_4 ++ dktJ28_split_5
def dkwJ28_split_3 : List UInt8 := [58, 6, 167, 0, 10, 25, 7, 25, 12, 181, 0, 22, 25, 12, 58, 7, 132, 10, 1, 167, 0, 35, 25, 12]
abbrev dktJ28_split_3 : List UInt8 := dkwJ28_split_3 ++ dktJ28_split_4
def dkwJ28_split_2 : List UInt8 := [25, 12, 180, 0, 15, 21, 4, 126, 154, 0, 38, 25, 12, 25, 7, 90, 181, 0, 19, 199, 0, 10, 25, 12]
abbrev dktJ28_split_2 : List UInt8 := dkwJ28_split_2 ++ dktJ28_split_3
def dkwJ28_split_1 : List UInt8 := [58, 12, 25, 12, 198, 0, 104, 25, 12, 180, 0, 22, 192, 0, 10, 58, 13, 25, 12, 1, 181, 0, 22]
abbrev dktJ28_split_1 : List UInt8 := dkwJ28_split_1 ++ dktJ28_split_2
def dkwJ28_split_0 : List UInt8 := [42, 58, 5, 1, 58, 6, 1, 58, 7, 1, 58, 8, 1, 58, 9, 3, 54, 10, 3, 54, 11, 25, 5]
abbrev dktJ28_split_0 : List UInt8 := dkwJ28_split_0 ++ dktJ28_split_1
theorem dksJ28_split_0 : cJ28_split.data.toList.drop 0 = dktJ28_split_0 := by decide +kernel
theorem dksJ28_split_1 : cJ28_split.data.toList.drop 23 = dktJ28_split_1 := dk_seg dksJ28_split_0 23 rfl rfl
theorem dksJ28_split_2 : cJ28_split.data.toList.drop 46 = dktJ28_split_2 := dk_seg dksJ28_split_1 23 rfl rfl
theorem dksJ28_split_3 : cJ28_split.data.toList.drop 70 = dktJ28_split_3 := dk_seg dksJ28_split_2 24 rfl rfl
theorem dksJ28_split_4 : cJ28_split.data.toList.drop 94 = dktJ28_split_4 := dk_seg dksJ28_split_3 24 rfl rfl
theorem dksJ28_split_5 : cJ28_split.data.toList.drop 117 = dktJ28_split_5 := dk_seg dksJ28_split_4 23 rfl rfl
theorem dksJ28_split_6 : cJ28_split.data.toList.drop 140 = dktJ28_split_6 := dk_seg dksJ28_split_5 23 rfl rfl
theorem dksJ28_split_7 : cJ28_split.data.toList.drop 162 = dktJ28_split_7 := dk_seg dksJ28_split_6 22 rfl rfl
theorem dksJ28_split_8 : cJ28_split.data.toList.drop 185 = dktJ28_split_8 := dk_seg dksJ28_split_7 23 rfl rfl
theorem dksJ28_split_9 : cJ28_split.data.toList.drop 208 = dktJ28_split_9 := dk_seg dksJ28_split_8 23 rfl rfl
theorem dJ28_split_0 : decode cJ28_split 0 = .ok (.aload_n 0, 1) := dk_42 (dk_at dksJ28_split_0 0 rfl rfl)
theorem dJ28_split_1 : decode cJ28_split 1 = .ok (.astore 5, 2) := dk_58 5 (dk_at dksJ28_split_0 1 rfl rfl)
theorem dJ28_split_3 : decode cJ28_split 3 = .ok (.aconst_null, 1) := dk_1 (dk_at dksJ28_split_0 3 rfl rfl)
theorem dJ28_split_4 : decode cJ28_split 4 = .ok (.astore 6, 2) := dk_58 6 (dk_at dksJ28_split_0 4 rfl rfl)
theorem dJ28_split_6 : decode cJ28_split 6 = .ok (.aconst_null, 1) := dk_1 (dk_at dksJ28_split_0 6 rfl rfl)
theorem dJ28_split_7 : decode cJ28_split 7 = .ok (.astore 7, 2) := dk_58 7 (dk_at dksJ28_split_0 7 rfl rfl)
theorem dJ28_split_9 : decode cJ28_split 9 = .ok (.aconst_null, 1) := dk_1 (dk_at dksJ28_split_0 9 rfl rfl)
theorem dJ28_split_10 : decode cJ28_split 10 = .ok (.astore 8, 2) := dk_58 8 (dk_at dksJ28_split_0 10 rfl rfl)
theorem dJ28_split_12 : decode cJ28_split 12 = .ok (.aconst_null, 1) := dk_1 (dk_at dksJ28_split_0 12 rfl rfl)
theorem dJ28_split_13 : decode cJ28_split 13 = .ok (.astore 9, 2) := dk_58 9 (dk_at dksJ28_split_0 13 rfl rfl)
theorem dJ28_split_15 : decode cJ28_split 15 = .ok (.iconst 0, 1) := dk_3 (dk_at dksJ28_split_0 15 rfl rfl)
theorem dJ28_split_16 : decode cJ28_split 16 = .ok (.istore 10, 2) := dk_54 10 (dk_at dksJ28_split_0 16 rfl rfl)
theorem dJ28_split_18 : decode cJ28_split 18 = .ok (.iconst 0, 1) := dk_3 (dk_at dksJ28_split_0 18 rfl rfl)
theorem dJ28_split_19 : decode cJ28_split 19 = .ok (.istore 11, 2) := dk_54 11 (dk_at dksJ28_split_0 19 rfl rfl)
theorem dJ28_split_21 : decode cJ28_split 21 = .ok (.aload 5, 2) := dk_25 5 (dk_at dksJ28_split_0 21 rfl rfl)
theorem dJ28_split_23 : decode cJ28_split 23 = .ok (.astore 12, 2) := dk_58 12 (dk_at dksJ28_split_1 0 rfl rfl)
theorem dJ28_split_25 : decode cJ28_split 25 = .ok (.aload 12, 2) := dk_25 12 (dk_at dksJ28_split_1 2 rfl rfl)
theorem dJ28_split_27 : decode cJ28_split 27 = .ok (.ifnull 104, 3) := dk_198 0 104 (dk_at dksJ28_split_1 4 rfl rfl)
theorem dJ28_split_30 : decode cJ28_split 30 = .ok (.aload 12, 2) := dk_25 12 (dk_at dksJ28_split_1 7 rfl rfl)
theorem dJ28_split_32 : decode cJ28_split 32 = .ok (.getfield 22, 3) := dk_180 0 22 (dk_at dksJ28_split_1 9 rfl rfl)
theorem dJ28_split_35 : decode cJ28_split 35 = .ok (.checkcast 10, 3) := dk_192 0 10 (dk_at dksJ28_split_1 12 rfl rfl)
theorem dJ28_split_38 : decode cJ28_split 38 = .ok (.astore 13, 2) := dk_58 13 (dk_at dksJ28_split_1 15 rfl rfl)
theorem dJ28_split_40 : decode cJ28_split 40 = .ok (.aload 12, 2) := dk_25 12 (dk_at dksJ28_split_1 17 rfl rfl)
theorem dJ28_split_42 : decode cJ28_split 42 = .ok (.aconst_null, 1) := dk_1 (dk_at dksJ28_split_1 19 rfl rfl)
theorem dJ28_split_43 : decode cJ28_split 43 = .ok (.putfield 22, 3) := dk_181 0 22 (dk_at dksJ28_split_1 20 rfl rfl)
theorem dJ28_split_46 : decode cJ28_split 46 = .ok (.aload 12, 2) := dk_25 12 (dk_at dksJ28_split_2 0 rfl rfl)
theorem dJ28_split_48 : decode cJ28_split 48 = .ok (.getfield 15, 3) := dk_180 0 15 (dk_at dksJ28_split_2 2 rfl rfl)
theorem dJ28_split_51 : decode cJ28_split 51 = .ok (.iload 4, 2) := dk_21 4 (dk_at dksJ28_split_2 5 rfl rfl)
theorem dJ28_split_53 : decode cJ28_split 53 = .ok (.iand, 1) := dk_126 (dk_at dksJ28_split_2 7 rfl rfl)
theorem dJ28_split_54 : decode cJ28_split 54 = .ok (.ifCond .ne 38, 3) := dk_154 0 38 (dk_at dksJ28_split_2 8 rfl rfl)
theorem dJ28_split_57 : decode cJ28_split 57 = .ok (.aload 12, 2) := dk_25 12 (dk_at dksJ28_split_2 11 rfl rfl)
theorem dJ28_split_59 : decode cJ28_split 59 = .ok (.aload 7, 2) := dk_25 7 (dk_at dksJ28_split_2 13 rfl rfl)
theorem dJ28_split_61 : decode cJ28_split 61 = .ok (.dup_x1, 1) := dk_90 (dk_at dksJ28_split_2 15 rfl rfl)
theorem dJ28_split_62 : decode cJ28_split 62 = .ok (.putfield 19, 3) := dk_181 0 19 (dk_at dksJ28_split_2 16 rfl rfl)
theorem dJ28_split_65 : decode cJ28_split 65 = .ok (.ifnonnull 10, 3) := dk_199 0 10 (dk_at dksJ28_split_2 19 rfl rfl)
theorem dJ28_split_68 : decode cJ28_split 68 = .ok (.aload 12, 2) := dk_25 12 (dk_at dksJ28_split_2 22 rfl rfl)
theorem dJ28_split_70 : decode cJ28_split 70 = .ok (.astore 6, 2) := dk_58 6 (dk_at dksJ28_split_3 0 rfl rfl)
theorem dJ28_split_72 : decode cJ28_split 72 = .ok (.goto 10, 3) := dk_167 0 10 (dk_at dksJ28_split_3 2 rfl rfl)
theorem dJ28_split_75 : decode cJ28_split 75 = .ok (.aload 7, 2) := dk_25 7 (dk_at dksJ28_split_3 5 rfl rfl)
theorem dJ28_split_77 : decode cJ28_split 77 = .ok (.aload 12, 2) := dk_25 12 (dk_at dksJ28_split_3 7 rfl rfl)
theorem dJ28_split_79 : decode cJ28_split 79 = .ok (.putfield 22, 3) := dk_181 0 22 (dk_at dksJ28_split_3 9 rfl rfl)
theorem dJ28_split_82 : decode cJ28_split 82 = .ok (.aload 12, 2) := dk_25 12 (dk_at dksJ28_split_3 12 rfl rfl)
theorem dJ28_split_84 : decode cJ28_split 84 = .ok (.astore 7, 2) := dk_58 7 (dk_at dksJ28_split_3 14 rfl rfl)
theorem dJ28_split_86 : decode cJ28_split 86 = .ok (.iinc 10 1, 3) := dk_132 10 1 (dk_at dksJ28_split_3 16 rfl rfl)
theorem dJ28_split_89 : decode cJ28_split 89 = .ok (.goto 35, 3) := dk_167 0 35 (dk_at dksJ28_split_3 19 rfl rfl)
theorem dJ28_split_92 : decode cJ28_split 92 = .ok (.aload 12, 2) := dk_25 12 (dk_at dksJ28_split_3 22 rfl rfl)
theorem dJ28_split_94 : decode cJ28_split 94 = .ok (.aload 9, 2) := dk_25 9 (dk_at dksJ28_split_4 0 rfl rfl)
theorem dJ28_split_96 : decode cJ28_split 96 = .ok (.dup_x1, 1) := dk_90 (dk_at dksJ28_split_4 2 rfl rfl)
theorem dJ28_split_97 : decode cJ28_split 97 = .ok (.putfield 19, 3) := dk_181 0 19 (dk_at dksJ28_split_4 3 rfl rfl)
theorem dJ28_split_100 : decode cJ28_split 100 = .ok (.ifnonnull 10, 3) := dk_199 0 10 (dk_at dksJ28_split_4 6 rfl rfl)
theorem dJ28_split_103 : decode cJ28_split 103 = .ok (.aload 12, 2) := dk_25 12 (dk_at dksJ28_split_4 9 rfl rfl)
theorem dJ28_split_105 : decode cJ28_split 105 = .ok (.astore 8, 2) := dk_58 8 (dk_at dksJ28_split_4 11 rfl rfl)
theorem dJ28_split_107 : decode cJ28_split 107 = .ok (.goto 10, 3) := dk_167 0 10 (dk_at dksJ28_split_4 13 rfl rfl)
theorem dJ28_split_110 : decode cJ28_split 110 = .ok (.aload 9, 2) := dk_25 9 (dk_at dksJ28_split_4 16 rfl rfl)
theorem dJ28_split_112 : decode cJ28_split 112 = .ok (.aload 12, 2) := dk_25 12 (dk_at dksJ28_split_4 18 rfl rfl)
theorem dJ28_split_114 : decode cJ28_split 114 = .ok (.putfield 22, 3) := dk_181 0 22 (dk_at dksJ28_split_4 20 rfl rfl)
theorem dJ28_split_117 : decode cJ28_split 117 = .ok (.aload 12, 2) := dk_25 12 (dk_at dksJ28_split_5 0 rfl rfl)
theorem dJ28_split_119 : decode cJ28_split 119 = .ok (.astore 9, 2) := dk_58 9 (dk_at dksJ28_split_5 2 rfl rfl)
theorem dJ28_split_121 : decode cJ28_split 121 = .ok (.iinc 11 1, 3) := dk_132 11 1 (dk_at dksJ28_split_5 4 rfl rfl)
theorem dJ28_split_124 : decode cJ28_split 124 = .ok (.aload 13, 2) := dk_25 13 (dk_at dksJ28_split_5 7 rfl rfl)
theorem dJ28_split_126 : decode cJ28_split 126 = .ok (.astore 12, 2) := dk_58 12 (dk_at dksJ28_split_5 9 rfl rfl)
theorem dJ28_split_128 : decode cJ28_split 128 = .ok (.goto (-103), 3) := dk_167 255 153 (dk_at dksJ28_split_5 11 rfl rfl)
theorem dJ28_split_131 : decode cJ28_split 131 = .ok (.aload 6, 2) := dk_25 6 (dk_at dksJ28_split_5 14 rfl rfl)
theorem dJ28_split_133 : decode cJ28_split 133 = .ok (.ifnull 38, 3) := dk_198 0 38 (dk_at dksJ28_split_5 16 rfl rfl)
theorem dJ28_split_136 : decode cJ28_split 136 = .ok (.iload 10, 2) := dk_21 10 (dk_at dksJ28_split_5 19 rfl rfl)
theorem dJ28_split_138 : decode cJ28_split 138 = .ok (.bipush 6, 2) := dk_16 6 (dk_at dksJ28_split_5 21 rfl rfl)
theorem dJ28_split_140 : decode cJ28_split 140 = .ok (.if_icmp .gt 15, 3) := dk_163 0 15 (dk_at dksJ28_split_6 0 rfl rfl)
theorem dJ28_split_143 : decode cJ28_split 143 = .ok (.aload_n 2, 1) := dk_44 (dk_at dksJ28_split_6 3 rfl rfl)
theorem dJ28_split_144 : decode cJ28_split 144 = .ok (.iload_n 3, 1) := dk_29 (dk_at dksJ28_split_6 4 rfl rfl)
theorem dJ28_split_145 : decode cJ28_split 145 = .ok (.aload 6, 2) := dk_25 6 (dk_at dksJ28_split_6 5 rfl rfl)
theorem dJ28_split_147 : decode cJ28_split 147 = .ok (.aload_n 1, 1) := dk_43 (dk_at dksJ28_split_6 7 rfl rfl)
theorem dJ28_split_148 : decode cJ28_split 148 = .ok (.invokevirtual 119, 3) := dk_182 0 119 (dk_at dksJ28_split_6 8 rfl rfl)
theorem dJ28_split_151 : decode cJ28_split 151 = .ok (.aastore, 1) := dk_83 (dk_at dksJ28_split_6 11 rfl rfl)
theorem dJ28_split_152 : decode cJ28_split 152 = .ok (.goto 19, 3) := dk_167 0 19 (dk_at dksJ28_split_6 12 rfl rfl)
theorem dJ28_split_155 : decode cJ28_split 155 = .ok (.aload_n 2, 1) := dk_44 (dk_at dksJ28_split_6 15 rfl rfl)
theorem dJ28_split_156 : decode cJ28_split 156 = .ok (.iload_n 3, 1) := dk_29 (dk_at dksJ28_split_6 16 rfl rfl)
theorem dJ28_split_157 : decode cJ28_split 157 = .ok (.aload 6, 2) := dk_25 6 (dk_at dksJ28_split_6 17 rfl rfl)
theorem dJ28_split_159 : decode cJ28_split 159 = .ok (.aastore, 1) := dk_83 (dk_at dksJ28_split_6 19 rfl rfl)
theorem dJ28_split_160 : decode cJ28_split 160 = .ok (.aload 8, 2) := dk_25 8 (dk_at dksJ28_split_6 20 rfl rfl)
theorem dJ28_split_162 : decode cJ28_split 162 = .ok (.ifnull 9, 3) := dk_198 0 9 (dk_at dksJ28_split_7 0 rfl rfl)
theorem dJ28_split_165 : decode cJ28_split 165 = .ok (.aload 6, 2) := dk_25 6 (dk_at dksJ28_split_7 3 rfl rfl)
theorem dJ28_split_167 : decode cJ28_split 167 = .ok (.aload_n 2, 1) := dk_44 (dk_at dksJ28_split_7 5 rfl rfl)
theorem dJ28_split_168 : decode cJ28_split 168 = .ok (.invokevirtual 126, 3) := dk_182 0 126 (dk_at dksJ28_split_7 6 rfl rfl)
theorem dJ28_split_171 : decode cJ28_split 171 = .ok (.aload 8, 2) := dk_25 8 (dk_at dksJ28_split_7 9 rfl rfl)
theorem dJ28_split_173 : decode cJ28_split 173 = .ok (.ifnull 44, 3) := dk_198 0 44 (dk_at dksJ28_split_7 11 rfl rfl)
theorem dJ28_split_176 : decode cJ28_split 176 = .ok (.iload 11, 2) := dk_21 11 (dk_at dksJ28_split_7 14 rfl rfl)
theorem dJ28_split_178 : decode cJ28_split 178 = .ok (.bipush 6, 2) := dk_16 6 (dk_at dksJ28_split_7 16 rfl rfl)
theorem dJ28_split_180 : decode cJ28_split 180 = .ok (.if_icmp .gt 18, 3) := dk_163 0 18 (dk_at dksJ28_split_7 18 rfl rfl)
theorem dJ28_split_183 : decode cJ28_split 183 = .ok (.aload_n 2, 1) := dk_44 (dk_at dksJ28_split_7 21 rfl rfl)
theorem dJ28_split_184 : decode cJ28_split 184 = .ok (.iload_n 3, 1) := dk_29 (dk_at dksJ28_split_7 22 rfl rfl)
theorem dJ28_split_185 : decode cJ28_split 185 = .ok (.iload 4, 2) := dk_21 4 (dk_at dksJ28_split_8 0 rfl rfl)
theorem dJ28_split_187 : decode cJ28_split 187 = .ok (.iadd, 1) := dk_96 (dk_at dksJ28_split_8 2 rfl rfl)
theorem dJ28_split_188 : decode cJ28_split 188 = .ok (.aload 8, 2) := dk_25 8 (dk_at dksJ28_split_8 3 rfl rfl)
theorem dJ28_split_190 : decode cJ28_split 190 = .ok (.aload_n 1, 1) := dk_43 (dk_at dksJ28_split_8 5 rfl rfl)
theorem dJ28_split_191 : decode cJ28_split 191 = .ok (.invokevirtual 119, 3) := dk_182 0 119 (dk_at dksJ28_split_8 6 rfl rfl)
theorem dJ28_split_194 : decode cJ28_split 194 = .ok (.aastore, 1) := dk_83 (dk_at dksJ28_split_8 9 rfl rfl)
theorem dJ28_split_195 : decode cJ28_split 195 = .ok (.goto 22, 3) := dk_167 0 22 (dk_at dksJ28_split_8 10 rfl rfl)
theorem dJ28_split_198 : decode cJ28_split 198 = .ok (.aload_n 2, 1) := dk_44 (dk_at dksJ28_split_8 13 rfl rfl)
theorem dJ28_split_199 : decode cJ28_split 199 = .ok (.iload_n 3, 1) := dk_29 (dk_at dksJ28_split_8 14 rfl rfl)
theorem dJ28_split_200 : decode cJ28_split 200 = .ok (.iload 4, 2) := dk_21 4 (dk_at dksJ28_split_8 15 rfl rfl)
theorem dJ28_split_202 : decode cJ28_split 202 = .ok (.iadd, 1) := dk_96 (dk_at dksJ28_split_8 17 rfl rfl)
theorem dJ28_split_203 : decode cJ28_split 203 = .ok (.aload 8, 2) := dk_25 8 (dk_at dksJ28_split_8 18 rfl rfl)
theorem dJ28_split_205 : decode cJ28_split 205 = .ok (.aastore, 1) := dk_83 (dk_at dksJ28_split_8 20 rfl rfl)
theorem dJ28_split_206 : decode cJ28_split 206 = .ok (.aload 6, 2) := dk_25 6 (dk_at dksJ28_split_8 21 rfl rfl)
theorem dJ28_split_208 : decode cJ28_split 208 = .ok (.ifnull 9, 3) := dk_198 0 9 (dk_at dksJ28_split_9 0 rfl rfl)
theorem dJ28_split_211 : decode cJ28_split 211 = .ok (.aload 8, 2) := dk_25 8 (dk_at dksJ28_split_9 3 rfl rfl)
theorem dJ28_split_213 : decode cJ28_split 213 = .ok (.aload_n 2, 1) := dk_44 (dk_at dksJ28_split_9 5 rfl rfl)
theorem dJ28_split_214 : decode cJ28_split 214 = .ok (.invokevirtual 126, 3) := dk_182 0 126 (dk_at dksJ28_split_9 6 rfl rfl)
theorem dJ28_split_217 : decode cJ28_split 217 = .ok (.return_, 1) := dk_177 (dk_at dksJ28_split_9 9 rfl rfl)
abbrev cJ28_untreeify : ByteArray := prog_86_method_8_code
def yJ28_untreeify : MethodName := ⟨RJ28, "untreeify", "(Ljava/util/HashMap;)Ljava/util/HashMap$Node;"⟩
def dkwJ28_untreeify_2 : List UInt8 := [58, 4, 167, 255, 216, 44, 176]
abbrev dktJ28_untreeify_2 : List UInt8 := dkwJ28_untreeify_2 ++ []
def dkwJ28_untreeify_1 : List UInt8 := [199, 0, 9, 25, 5, 77, 167, 0, 9, 45, 25, 5, 181, 0, 112, 25, 5, 78, 25, 4, 180, 0, 112]
abbrev dktJ28_untreeify_1 : List UInt8 := dkwJ28_untreeify_1 ++ dktJ28_untreeify_2
def dkwJ28_untreeify_0 : List UInt8 := [1, 77, 1, 78, 42, 58, 4, 25, 4, 198, 0, 41, 43, 25, 4, 1, 182, 0, 108, 58, 5, 45]
abbrev dktJ28_untreeify_0 : List UInt8 := dkwJ28_untreeify_0 ++ dktJ28_untreeify_1
theorem dksJ28_untreeify_0 : cJ28_untreeify.data.toList.drop 0 = dktJ28_untreeify_0 := by decide +kernel
theorem dksJ28_untreeify_1 : cJ28_untreeify.data.toList.drop 22 = dktJ28_untreeify_1 := dk_seg dksJ28_untreeify_0 22 rfl rfl
theorem dksJ28_untreeify_2 : cJ28_untreeify.data.toList.drop 45 = dktJ28_untreeify_2 := dk_seg dksJ28_untreeify_1 23 rfl rfl
theorem dJ28_untreeify_0 : decode cJ28_untreeify 0 = .ok (.aconst_null, 1) := dk_1 (dk_at dksJ28_untreeify_0 0 rfl rfl)
theorem dJ28_untreeify_1 : decode cJ28_untreeify 1 = .ok (.astore_n 2, 1) := dk_77 (dk_at dksJ28_untreeify_0 1 rfl rfl)
theorem dJ28_untreeify_2 : decode cJ28_untreeify 2 = .ok (.aconst_null, 1) := dk_1 (dk_at dksJ28_untreeify_0 2 rfl rfl)
theorem dJ28_untreeify_3 : decode cJ28_untreeify 3 = .ok (.astore_n 3, 1) := dk_78 (dk_at dksJ28_untreeify_0 3 rfl rfl)
theorem dJ28_untreeify_4 : decode cJ28_untreeify 4 = .ok (.aload_n 0, 1) := dk_42 (dk_at dksJ28_untreeify_0 4 rfl rfl)
theorem dJ28_untreeify_5 : decode cJ28_untreeify 5 = .ok (.astore 4, 2) := dk_58 4 (dk_at dksJ28_untreeify_0 5 rfl rfl)
theorem dJ28_untreeify_7 : decode cJ28_untreeify 7 = .ok (.aload 4, 2) := dk_25 4 (dk_at dksJ28_untreeify_0 7 rfl rfl)
theorem dJ28_untreeify_9 : decode cJ28_untreeify 9 = .ok (.ifnull 41, 3) := dk_198 0 41 (dk_at dksJ28_untreeify_0 9 rfl rfl)
theorem dJ28_untreeify_12 : decode cJ28_untreeify 12 = .ok (.aload_n 1, 1) := dk_43 (dk_at dksJ28_untreeify_0 12 rfl rfl)
theorem dJ28_untreeify_13 : decode cJ28_untreeify 13 = .ok (.aload 4, 2) := dk_25 4 (dk_at dksJ28_untreeify_0 13 rfl rfl)
theorem dJ28_untreeify_15 : decode cJ28_untreeify 15 = .ok (.aconst_null, 1) := dk_1 (dk_at dksJ28_untreeify_0 15 rfl rfl)
theorem dJ28_untreeify_16 : decode cJ28_untreeify 16 = .ok (.invokevirtual 108, 3) := dk_182 0 108 (dk_at dksJ28_untreeify_0 16 rfl rfl)
theorem dJ28_untreeify_19 : decode cJ28_untreeify 19 = .ok (.astore 5, 2) := dk_58 5 (dk_at dksJ28_untreeify_0 19 rfl rfl)
theorem dJ28_untreeify_21 : decode cJ28_untreeify 21 = .ok (.aload_n 3, 1) := dk_45 (dk_at dksJ28_untreeify_0 21 rfl rfl)
theorem dJ28_untreeify_22 : decode cJ28_untreeify 22 = .ok (.ifnonnull 9, 3) := dk_199 0 9 (dk_at dksJ28_untreeify_1 0 rfl rfl)
theorem dJ28_untreeify_25 : decode cJ28_untreeify 25 = .ok (.aload 5, 2) := dk_25 5 (dk_at dksJ28_untreeify_1 3 rfl rfl)
theorem dJ28_untreeify_27 : decode cJ28_untreeify 27 = .ok (.astore_n 2, 1) := dk_77 (dk_at dksJ28_untreeify_1 5 rfl rfl)
theorem dJ28_untreeify_28 : decode cJ28_untreeify 28 = .ok (.goto 9, 3) := dk_167 0 9 (dk_at dksJ28_untreeify_1 6 rfl rfl)
theorem dJ28_untreeify_31 : decode cJ28_untreeify 31 = .ok (.aload_n 3, 1) := dk_45 (dk_at dksJ28_untreeify_1 9 rfl rfl)
theorem dJ28_untreeify_32 : decode cJ28_untreeify 32 = .ok (.aload 5, 2) := dk_25 5 (dk_at dksJ28_untreeify_1 10 rfl rfl)
theorem dJ28_untreeify_34 : decode cJ28_untreeify 34 = .ok (.putfield 112, 3) := dk_181 0 112 (dk_at dksJ28_untreeify_1 12 rfl rfl)
theorem dJ28_untreeify_37 : decode cJ28_untreeify 37 = .ok (.aload 5, 2) := dk_25 5 (dk_at dksJ28_untreeify_1 15 rfl rfl)
theorem dJ28_untreeify_39 : decode cJ28_untreeify 39 = .ok (.astore_n 3, 1) := dk_78 (dk_at dksJ28_untreeify_1 17 rfl rfl)
theorem dJ28_untreeify_40 : decode cJ28_untreeify 40 = .ok (.aload 4, 2) := dk_25 4 (dk_at dksJ28_untreeify_1 18 rfl rfl)
theorem dJ28_untreeify_42 : decode cJ28_untreeify 42 = .ok (.getfield 112, 3) := dk_180 0 112 (dk_at dksJ28_untreeify_1 20 rfl rfl)
theorem dJ28_untreeify_45 : decode cJ28_untreeify 45 = .ok (.astore 4, 2) := dk_58 4 (dk_at dksJ28_untreeify_2 0 rfl rfl)
theorem dJ28_untreeify_47 : decode cJ28_untreeify 47 = .ok (.goto (-40), 3) := dk_167 255 216 (dk_at dksJ28_untreeify_2 2 rfl rfl)
theorem dJ28_untreeify_50 : decode cJ28_untreeify 50 = .ok (.aload_n 2, 1) := dk_44 (dk_at dksJ28_untreeify_2 5 rfl rfl)
theorem dJ28_untreeify_51 : decode cJ28_untreeify 51 = .ok (.areturn, 1) := dk_176 (dk_at dksJ28_untreeify_2 6 rfl rfl)
abbrev cJ28_treeify : ByteArray := prog_86_method_7_code
def yJ28_treeify : MethodName := ⟨RJ28, "treeify", "([Ljava/util/HashMap$Node;)V"⟩
def dkwJ28_treeify_9 : List UInt8 := [25, 4, 78, 167, 255, 48, 43, 44, 184, 0, 104, 177]
abbrev dktJ28_treeify_9 : List UInt8 := dkwJ28_treeify_9 ++ []
def dkwJ28_treeify_8 : List UInt8 := [181, 0, 39, 167, 0, 9, 25, 12, 45, 181, 0, 42, 44, 45, 184, 0, 100, 77, 167, 0, 6, 167, 255, 114]
abbrev dktJ28_treeify_8 : List UInt8 := dkwJ28_treeify_8 ++ dktJ28_treeify_9
def dkwJ28_treeify_7 : List UInt8 := [180, 0, 42, 89, 58, 8, 199, 0, 38, 45, 25, 12, 181, 0, 9, 21, 9, 157, 0, 12, 25, 12, 45]
abbrev dktJ28_treeify_7 : List UInt8 := dkwJ28_treeify_7 ++ dktJ28_treeify_8
def dkwJ28_treeify_6 : List UInt8 := [184, 0, 96, 54, 9, 25, 8, 58, 12, 21, 9, 157, 0, 11, 25, 8, 180, 0, 39, 167, 0, 8, 25, 8]
abbrev dktJ28_treeify_6 : List UInt8 := dkwJ28_treeify_6 ++ dktJ28_treeify_7
def dkwJ28_treeify_5 : List UInt8 := [198, 0, 18, 25, 7, 25, 5, 25, 11, 184, 0, 59, 89, 54, 9, 154, 0, 12, 25, 5, 25, 11]
abbrev dktJ28_treeify_5 : List UInt8 := dkwJ28_treeify_5 ++ dktJ28_treeify_6
def dkwJ28_treeify_4 : List UInt8 := [162, 0, 9, 4, 54, 9, 167, 0, 43, 25, 7, 199, 0, 14, 25, 5, 184, 0, 55, 89, 58, 7]
abbrev dktJ28_treeify_4 : List UInt8 := dkwJ28_treeify_4 ++ dktJ28_treeify_5
def dkwJ28_treeify_3 : List UInt8 := [25, 8, 180, 0, 15, 89, 54, 10, 21, 6, 164, 0, 9, 2, 54, 9, 167, 0, 56, 21, 10, 21, 6]
abbrev dktJ28_treeify_3 : List UInt8 := dkwJ28_treeify_3 ++ dktJ28_treeify_4
def dkwJ28_treeify_2 : List UInt8 := [180, 0, 45, 58, 5, 45, 180, 0, 15, 54, 6, 1, 58, 7, 44, 58, 8, 25, 8, 180, 0, 45, 58, 11]
abbrev dktJ28_treeify_2 : List UInt8 := dkwJ28_treeify_2 ++ dktJ28_treeify_3
def dkwJ28_treeify_1 : List UInt8 := [181, 0, 39, 44, 199, 0, 18, 45, 1, 181, 0, 9, 45, 3, 181, 0, 93, 45, 77, 167, 0, 166, 45]
abbrev dktJ28_treeify_1 : List UInt8 := dkwJ28_treeify_1 ++ dktJ28_treeify_2
def dkwJ28_treeify_0 : List UInt8 := [1, 77, 42, 78, 45, 198, 0, 210, 45, 180, 0, 22, 192, 0, 10, 58, 4, 45, 45, 1, 90, 181, 0, 42]
abbrev dktJ28_treeify_0 : List UInt8 := dkwJ28_treeify_0 ++ dktJ28_treeify_1
theorem dksJ28_treeify_0 : cJ28_treeify.data.toList.drop 0 = dktJ28_treeify_0 := by decide +kernel
theorem dksJ28_treeify_1 : cJ28_treeify.data.toList.drop 24 = dktJ28_treeify_1 := dk_seg dksJ28_treeify_0 24 rfl rfl
theorem dksJ28_treeify_2 : cJ28_treeify.data.toList.drop 47 = dktJ28_treeify_2 := dk_seg dksJ28_treeify_1 23 rfl rfl
theorem dksJ28_treeify_3 : cJ28_treeify.data.toList.drop 71 = dktJ28_treeify_3 := dk_seg dksJ28_treeify_2 24 rfl rfl
theorem dksJ28_treeify_4 : cJ28_treeify.data.toList.drop 94 = dktJ28_treeify_4 := dk_seg dksJ28_treeify_3 23 rfl rfl
theorem dksJ28_treeify_5 : cJ28_treeify.data.toList.drop 116 = dktJ28_treeify_5 := dk_seg dksJ28_treeify_4 22 rfl rfl
theorem dksJ28_treeify_6 : cJ28_treeify.data.toList.drop 138 = dktJ28_treeify_6 := dk_seg dksJ28_treeify_5 22 rfl rfl
theorem dksJ28_treeify_7 : cJ28_treeify.data.toList.drop 162 = dktJ28_treeify_7 := dk_seg dksJ28_treeify_6 24 rfl rfl
theorem dksJ28_treeify_8 : cJ28_treeify.data.toList.drop 185 = dktJ28_treeify_8 := dk_seg dksJ28_treeify_7 23 rfl rfl
theorem dksJ28_treeify_9 : cJ28_treeify.data.toList.drop 209 = dktJ28_treeify_9 := dk_seg dksJ28_treeify_8 24 rfl rfl
theorem dJ28_treeify_0 : decode cJ28_treeify 0 = .ok (.aconst_null, 1) := dk_1 (dk_at dksJ28_treeify_0 0 rfl rfl)
theorem dJ28_treeify_1 : decode cJ28_treeify 1 = .ok (.astore_n 2, 1) := dk_77 (dk_at dksJ28_treeify_0 1 rfl rfl)
theorem dJ28_treeify_2 : decode cJ28_treeify 2 = .ok (.aload_n 0, 1) := dk_42 (dk_at dksJ28_treeify_0 2 rfl rfl)
theorem dJ28_treeify_3 : decode cJ28_treeify 3 = .ok (.astore_n 3, 1) := dk_78 (dk_at dksJ28_treeify_0 3 rfl rfl)
theorem dJ28_treeify_4 : decode cJ28_treeify 4 = .ok (.aload_n 3, 1) := dk_45 (dk_at dksJ28_treeify_0 4 rfl rfl)
theorem dJ28_treeify_5 : decode cJ28_treeify 5 = .ok (.ifnull 210, 3) := dk_198 0 210 (dk_at dksJ28_treeify_0 5 rfl rfl)
theorem dJ28_treeify_8 : decode cJ28_treeify 8 = .ok (.aload_n 3, 1) := dk_45 (dk_at dksJ28_treeify_0 8 rfl rfl)
theorem dJ28_treeify_9 : decode cJ28_treeify 9 = .ok (.getfield 22, 3) := dk_180 0 22 (dk_at dksJ28_treeify_0 9 rfl rfl)
theorem dJ28_treeify_12 : decode cJ28_treeify 12 = .ok (.checkcast 10, 3) := dk_192 0 10 (dk_at dksJ28_treeify_0 12 rfl rfl)
theorem dJ28_treeify_15 : decode cJ28_treeify 15 = .ok (.astore 4, 2) := dk_58 4 (dk_at dksJ28_treeify_0 15 rfl rfl)
theorem dJ28_treeify_17 : decode cJ28_treeify 17 = .ok (.aload_n 3, 1) := dk_45 (dk_at dksJ28_treeify_0 17 rfl rfl)
theorem dJ28_treeify_18 : decode cJ28_treeify 18 = .ok (.aload_n 3, 1) := dk_45 (dk_at dksJ28_treeify_0 18 rfl rfl)
theorem dJ28_treeify_19 : decode cJ28_treeify 19 = .ok (.aconst_null, 1) := dk_1 (dk_at dksJ28_treeify_0 19 rfl rfl)
theorem dJ28_treeify_20 : decode cJ28_treeify 20 = .ok (.dup_x1, 1) := dk_90 (dk_at dksJ28_treeify_0 20 rfl rfl)
theorem dJ28_treeify_21 : decode cJ28_treeify 21 = .ok (.putfield 42, 3) := dk_181 0 42 (dk_at dksJ28_treeify_0 21 rfl rfl)
theorem dJ28_treeify_24 : decode cJ28_treeify 24 = .ok (.putfield 39, 3) := dk_181 0 39 (dk_at dksJ28_treeify_1 0 rfl rfl)
theorem dJ28_treeify_27 : decode cJ28_treeify 27 = .ok (.aload_n 2, 1) := dk_44 (dk_at dksJ28_treeify_1 3 rfl rfl)
theorem dJ28_treeify_28 : decode cJ28_treeify 28 = .ok (.ifnonnull 18, 3) := dk_199 0 18 (dk_at dksJ28_treeify_1 4 rfl rfl)
theorem dJ28_treeify_31 : decode cJ28_treeify 31 = .ok (.aload_n 3, 1) := dk_45 (dk_at dksJ28_treeify_1 7 rfl rfl)
theorem dJ28_treeify_32 : decode cJ28_treeify 32 = .ok (.aconst_null, 1) := dk_1 (dk_at dksJ28_treeify_1 8 rfl rfl)
theorem dJ28_treeify_33 : decode cJ28_treeify 33 = .ok (.putfield 9, 3) := dk_181 0 9 (dk_at dksJ28_treeify_1 9 rfl rfl)
theorem dJ28_treeify_36 : decode cJ28_treeify 36 = .ok (.aload_n 3, 1) := dk_45 (dk_at dksJ28_treeify_1 12 rfl rfl)
theorem dJ28_treeify_37 : decode cJ28_treeify 37 = .ok (.iconst 0, 1) := dk_3 (dk_at dksJ28_treeify_1 13 rfl rfl)
theorem dJ28_treeify_38 : decode cJ28_treeify 38 = .ok (.putfield 93, 3) := dk_181 0 93 (dk_at dksJ28_treeify_1 14 rfl rfl)
theorem dJ28_treeify_41 : decode cJ28_treeify 41 = .ok (.aload_n 3, 1) := dk_45 (dk_at dksJ28_treeify_1 17 rfl rfl)
theorem dJ28_treeify_42 : decode cJ28_treeify 42 = .ok (.astore_n 2, 1) := dk_77 (dk_at dksJ28_treeify_1 18 rfl rfl)
theorem dJ28_treeify_43 : decode cJ28_treeify 43 = .ok (.goto 166, 3) := dk_167 0 166 (dk_at dksJ28_treeify_1 19 rfl rfl)
theorem dJ28_treeify_46 : decode cJ28_treeify 46 = .ok (.aload_n 3, 1) := dk_45 (dk_at dksJ28_treeify_1 22 rfl rfl)
theorem dJ28_treeify_47 : decode cJ28_treeify 47 = .ok (.getfield 45, 3) := dk_180 0 45 (dk_at dksJ28_treeify_2 0 rfl rfl)
theorem dJ28_treeify_50 : decode cJ28_treeify 50 = .ok (.astore 5, 2) := dk_58 5 (dk_at dksJ28_treeify_2 3 rfl rfl)
theorem dJ28_treeify_52 : decode cJ28_treeify 52 = .ok (.aload_n 3, 1) := dk_45 (dk_at dksJ28_treeify_2 5 rfl rfl)
theorem dJ28_treeify_53 : decode cJ28_treeify 53 = .ok (.getfield 15, 3) := dk_180 0 15 (dk_at dksJ28_treeify_2 6 rfl rfl)
theorem dJ28_treeify_56 : decode cJ28_treeify 56 = .ok (.istore 6, 2) := dk_54 6 (dk_at dksJ28_treeify_2 9 rfl rfl)
theorem dJ28_treeify_58 : decode cJ28_treeify 58 = .ok (.aconst_null, 1) := dk_1 (dk_at dksJ28_treeify_2 11 rfl rfl)
theorem dJ28_treeify_59 : decode cJ28_treeify 59 = .ok (.astore 7, 2) := dk_58 7 (dk_at dksJ28_treeify_2 12 rfl rfl)
theorem dJ28_treeify_61 : decode cJ28_treeify 61 = .ok (.aload_n 2, 1) := dk_44 (dk_at dksJ28_treeify_2 14 rfl rfl)
theorem dJ28_treeify_62 : decode cJ28_treeify 62 = .ok (.astore 8, 2) := dk_58 8 (dk_at dksJ28_treeify_2 15 rfl rfl)
theorem dJ28_treeify_64 : decode cJ28_treeify 64 = .ok (.aload 8, 2) := dk_25 8 (dk_at dksJ28_treeify_2 17 rfl rfl)
theorem dJ28_treeify_66 : decode cJ28_treeify 66 = .ok (.getfield 45, 3) := dk_180 0 45 (dk_at dksJ28_treeify_2 19 rfl rfl)
theorem dJ28_treeify_69 : decode cJ28_treeify 69 = .ok (.astore 11, 2) := dk_58 11 (dk_at dksJ28_treeify_2 22 rfl rfl)
theorem dJ28_treeify_71 : decode cJ28_treeify 71 = .ok (.aload 8, 2) := dk_25 8 (dk_at dksJ28_treeify_3 0 rfl rfl)
theorem dJ28_treeify_73 : decode cJ28_treeify 73 = .ok (.getfield 15, 3) := dk_180 0 15 (dk_at dksJ28_treeify_3 2 rfl rfl)
theorem dJ28_treeify_76 : decode cJ28_treeify 76 = .ok (.dup, 1) := dk_89 (dk_at dksJ28_treeify_3 5 rfl rfl)
theorem dJ28_treeify_77 : decode cJ28_treeify 77 = .ok (.istore 10, 2) := dk_54 10 (dk_at dksJ28_treeify_3 6 rfl rfl)
theorem dJ28_treeify_79 : decode cJ28_treeify 79 = .ok (.iload 6, 2) := dk_21 6 (dk_at dksJ28_treeify_3 8 rfl rfl)
theorem dJ28_treeify_81 : decode cJ28_treeify 81 = .ok (.if_icmp .le 9, 3) := dk_164 0 9 (dk_at dksJ28_treeify_3 10 rfl rfl)
theorem dJ28_treeify_84 : decode cJ28_treeify 84 = .ok (.iconst (-1), 1) := dk_2 (dk_at dksJ28_treeify_3 13 rfl rfl)
theorem dJ28_treeify_85 : decode cJ28_treeify 85 = .ok (.istore 9, 2) := dk_54 9 (dk_at dksJ28_treeify_3 14 rfl rfl)
theorem dJ28_treeify_87 : decode cJ28_treeify 87 = .ok (.goto 56, 3) := dk_167 0 56 (dk_at dksJ28_treeify_3 16 rfl rfl)
theorem dJ28_treeify_90 : decode cJ28_treeify 90 = .ok (.iload 10, 2) := dk_21 10 (dk_at dksJ28_treeify_3 19 rfl rfl)
theorem dJ28_treeify_92 : decode cJ28_treeify 92 = .ok (.iload 6, 2) := dk_21 6 (dk_at dksJ28_treeify_3 21 rfl rfl)
theorem dJ28_treeify_94 : decode cJ28_treeify 94 = .ok (.if_icmp .ge 9, 3) := dk_162 0 9 (dk_at dksJ28_treeify_4 0 rfl rfl)
theorem dJ28_treeify_97 : decode cJ28_treeify 97 = .ok (.iconst 1, 1) := dk_4 (dk_at dksJ28_treeify_4 3 rfl rfl)
theorem dJ28_treeify_98 : decode cJ28_treeify 98 = .ok (.istore 9, 2) := dk_54 9 (dk_at dksJ28_treeify_4 4 rfl rfl)
theorem dJ28_treeify_100 : decode cJ28_treeify 100 = .ok (.goto 43, 3) := dk_167 0 43 (dk_at dksJ28_treeify_4 6 rfl rfl)
theorem dJ28_treeify_103 : decode cJ28_treeify 103 = .ok (.aload 7, 2) := dk_25 7 (dk_at dksJ28_treeify_4 9 rfl rfl)
theorem dJ28_treeify_105 : decode cJ28_treeify 105 = .ok (.ifnonnull 14, 3) := dk_199 0 14 (dk_at dksJ28_treeify_4 11 rfl rfl)
theorem dJ28_treeify_108 : decode cJ28_treeify 108 = .ok (.aload 5, 2) := dk_25 5 (dk_at dksJ28_treeify_4 14 rfl rfl)
theorem dJ28_treeify_110 : decode cJ28_treeify 110 = .ok (.invokestatic 55, 3) := dk_184 0 55 (dk_at dksJ28_treeify_4 16 rfl rfl)
theorem dJ28_treeify_113 : decode cJ28_treeify 113 = .ok (.dup, 1) := dk_89 (dk_at dksJ28_treeify_4 19 rfl rfl)
theorem dJ28_treeify_114 : decode cJ28_treeify 114 = .ok (.astore 7, 2) := dk_58 7 (dk_at dksJ28_treeify_4 20 rfl rfl)
theorem dJ28_treeify_116 : decode cJ28_treeify 116 = .ok (.ifnull 18, 3) := dk_198 0 18 (dk_at dksJ28_treeify_5 0 rfl rfl)
theorem dJ28_treeify_119 : decode cJ28_treeify 119 = .ok (.aload 7, 2) := dk_25 7 (dk_at dksJ28_treeify_5 3 rfl rfl)
theorem dJ28_treeify_121 : decode cJ28_treeify 121 = .ok (.aload 5, 2) := dk_25 5 (dk_at dksJ28_treeify_5 5 rfl rfl)
theorem dJ28_treeify_123 : decode cJ28_treeify 123 = .ok (.aload 11, 2) := dk_25 11 (dk_at dksJ28_treeify_5 7 rfl rfl)
theorem dJ28_treeify_125 : decode cJ28_treeify 125 = .ok (.invokestatic 59, 3) := dk_184 0 59 (dk_at dksJ28_treeify_5 9 rfl rfl)
theorem dJ28_treeify_128 : decode cJ28_treeify 128 = .ok (.dup, 1) := dk_89 (dk_at dksJ28_treeify_5 12 rfl rfl)
theorem dJ28_treeify_129 : decode cJ28_treeify 129 = .ok (.istore 9, 2) := dk_54 9 (dk_at dksJ28_treeify_5 13 rfl rfl)
theorem dJ28_treeify_131 : decode cJ28_treeify 131 = .ok (.ifCond .ne 12, 3) := dk_154 0 12 (dk_at dksJ28_treeify_5 15 rfl rfl)
theorem dJ28_treeify_134 : decode cJ28_treeify 134 = .ok (.aload 5, 2) := dk_25 5 (dk_at dksJ28_treeify_5 18 rfl rfl)
theorem dJ28_treeify_136 : decode cJ28_treeify 136 = .ok (.aload 11, 2) := dk_25 11 (dk_at dksJ28_treeify_5 20 rfl rfl)
theorem dJ28_treeify_138 : decode cJ28_treeify 138 = .ok (.invokestatic 96, 3) := dk_184 0 96 (dk_at dksJ28_treeify_6 0 rfl rfl)
theorem dJ28_treeify_141 : decode cJ28_treeify 141 = .ok (.istore 9, 2) := dk_54 9 (dk_at dksJ28_treeify_6 3 rfl rfl)
theorem dJ28_treeify_143 : decode cJ28_treeify 143 = .ok (.aload 8, 2) := dk_25 8 (dk_at dksJ28_treeify_6 5 rfl rfl)
theorem dJ28_treeify_145 : decode cJ28_treeify 145 = .ok (.astore 12, 2) := dk_58 12 (dk_at dksJ28_treeify_6 7 rfl rfl)
theorem dJ28_treeify_147 : decode cJ28_treeify 147 = .ok (.iload 9, 2) := dk_21 9 (dk_at dksJ28_treeify_6 9 rfl rfl)
theorem dJ28_treeify_149 : decode cJ28_treeify 149 = .ok (.ifCond .gt 11, 3) := dk_157 0 11 (dk_at dksJ28_treeify_6 11 rfl rfl)
theorem dJ28_treeify_152 : decode cJ28_treeify 152 = .ok (.aload 8, 2) := dk_25 8 (dk_at dksJ28_treeify_6 14 rfl rfl)
theorem dJ28_treeify_154 : decode cJ28_treeify 154 = .ok (.getfield 39, 3) := dk_180 0 39 (dk_at dksJ28_treeify_6 16 rfl rfl)
theorem dJ28_treeify_157 : decode cJ28_treeify 157 = .ok (.goto 8, 3) := dk_167 0 8 (dk_at dksJ28_treeify_6 19 rfl rfl)
theorem dJ28_treeify_160 : decode cJ28_treeify 160 = .ok (.aload 8, 2) := dk_25 8 (dk_at dksJ28_treeify_6 22 rfl rfl)
theorem dJ28_treeify_162 : decode cJ28_treeify 162 = .ok (.getfield 42, 3) := dk_180 0 42 (dk_at dksJ28_treeify_7 0 rfl rfl)
theorem dJ28_treeify_165 : decode cJ28_treeify 165 = .ok (.dup, 1) := dk_89 (dk_at dksJ28_treeify_7 3 rfl rfl)
theorem dJ28_treeify_166 : decode cJ28_treeify 166 = .ok (.astore 8, 2) := dk_58 8 (dk_at dksJ28_treeify_7 4 rfl rfl)
theorem dJ28_treeify_168 : decode cJ28_treeify 168 = .ok (.ifnonnull 38, 3) := dk_199 0 38 (dk_at dksJ28_treeify_7 6 rfl rfl)
theorem dJ28_treeify_171 : decode cJ28_treeify 171 = .ok (.aload_n 3, 1) := dk_45 (dk_at dksJ28_treeify_7 9 rfl rfl)
theorem dJ28_treeify_172 : decode cJ28_treeify 172 = .ok (.aload 12, 2) := dk_25 12 (dk_at dksJ28_treeify_7 10 rfl rfl)
theorem dJ28_treeify_174 : decode cJ28_treeify 174 = .ok (.putfield 9, 3) := dk_181 0 9 (dk_at dksJ28_treeify_7 12 rfl rfl)
theorem dJ28_treeify_177 : decode cJ28_treeify 177 = .ok (.iload 9, 2) := dk_21 9 (dk_at dksJ28_treeify_7 15 rfl rfl)
theorem dJ28_treeify_179 : decode cJ28_treeify 179 = .ok (.ifCond .gt 12, 3) := dk_157 0 12 (dk_at dksJ28_treeify_7 17 rfl rfl)
theorem dJ28_treeify_182 : decode cJ28_treeify 182 = .ok (.aload 12, 2) := dk_25 12 (dk_at dksJ28_treeify_7 20 rfl rfl)
theorem dJ28_treeify_184 : decode cJ28_treeify 184 = .ok (.aload_n 3, 1) := dk_45 (dk_at dksJ28_treeify_7 22 rfl rfl)
theorem dJ28_treeify_185 : decode cJ28_treeify 185 = .ok (.putfield 39, 3) := dk_181 0 39 (dk_at dksJ28_treeify_8 0 rfl rfl)
theorem dJ28_treeify_188 : decode cJ28_treeify 188 = .ok (.goto 9, 3) := dk_167 0 9 (dk_at dksJ28_treeify_8 3 rfl rfl)
theorem dJ28_treeify_191 : decode cJ28_treeify 191 = .ok (.aload 12, 2) := dk_25 12 (dk_at dksJ28_treeify_8 6 rfl rfl)
theorem dJ28_treeify_193 : decode cJ28_treeify 193 = .ok (.aload_n 3, 1) := dk_45 (dk_at dksJ28_treeify_8 8 rfl rfl)
theorem dJ28_treeify_194 : decode cJ28_treeify 194 = .ok (.putfield 42, 3) := dk_181 0 42 (dk_at dksJ28_treeify_8 9 rfl rfl)
theorem dJ28_treeify_197 : decode cJ28_treeify 197 = .ok (.aload_n 2, 1) := dk_44 (dk_at dksJ28_treeify_8 12 rfl rfl)
theorem dJ28_treeify_198 : decode cJ28_treeify 198 = .ok (.aload_n 3, 1) := dk_45 (dk_at dksJ28_treeify_8 13 rfl rfl)
theorem dJ28_treeify_199 : decode cJ28_treeify 199 = .ok (.invokestatic 100, 3) := dk_184 0 100 (dk_at dksJ28_treeify_8 14 rfl rfl)
theorem dJ28_treeify_202 : decode cJ28_treeify 202 = .ok (.astore_n 2, 1) := dk_77 (dk_at dksJ28_treeify_8 17 rfl rfl)
theorem dJ28_treeify_203 : decode cJ28_treeify 203 = .ok (.goto 6, 3) := dk_167 0 6 (dk_at dksJ28_treeify_8 18 rfl rfl)
theorem dJ28_treeify_206 : decode cJ28_treeify 206 = .ok (.goto (-142), 3) := dk_167 255 114 (dk_at dksJ28_treeify_8 21 rfl rfl)
theorem dJ28_treeify_209 : decode cJ28_treeify 209 = .ok (.aload 4, 2) := dk_25 4 (dk_at dksJ28_treeify_9 0 rfl rfl)
theorem dJ28_treeify_211 : decode cJ28_treeify 211 = .ok (.astore_n 3, 1) := dk_78 (dk_at dksJ28_treeify_9 2 rfl rfl)
theorem dJ28_treeify_212 : decode cJ28_treeify 212 = .ok (.goto (-208), 3) := dk_167 255 48 (dk_at dksJ28_treeify_9 3 rfl rfl)
theorem dJ28_treeify_215 : decode cJ28_treeify 215 = .ok (.aload_n 1, 1) := dk_43 (dk_at dksJ28_treeify_9 6 rfl rfl)
theorem dJ28_treeify_216 : decode cJ28_treeify 216 = .ok (.aload_n 2, 1) := dk_44 (dk_at dksJ28_treeify_9 7 rfl rfl)
theorem dJ28_treeify_217 : decode cJ28_treeify 217 = .ok (.invokestatic 104, 3) := dk_184 0 104 (dk_at dksJ28_treeify_9 8 rfl rfl)
theorem dJ28_treeify_220 : decode cJ28_treeify 220 = .ok (.return_, 1) := dk_177 (dk_at dksJ28_treeify_9 11 rfl rfl)
abbrev cJ28_balanceInsertion : ByteArray := prog_86_method_14_code
def yJ28_balanceInsertion : MethodName := ⟨RJ28, "balanceInsertion", "(Ljava/util/HashMap$TreeNode;Ljava/util/HashMap$TreeNode;)Ljava/util/HashMap$TreeNode;"⟩
def dkwJ28_balanceInsertion_10 : List UInt8 := [198, 255, 33, 45, 4, 181, 0, 93, 42, 45, 184, 0, 130, 75, 167, 255, 19]
abbrev dktJ28_balanceInsertion_10 : List UInt8 := dkwJ28_balanceInsertion_10 ++ []
def dkwJ28_balanceInsertion_9 : List UInt8 := [199, 0, 7, 1, 167, 0, 7, 44, 180, 0, 9, 78, 44, 198, 255, 42, 44, 3, 181, 0, 93, 45]
abbrev dktJ28_balanceInsertion_9 : List UInt8 := dkwJ28_balanceInsertion_9 ++ dktJ28_balanceInsertion_10
def dkwJ28_balanceInsertion_8 : List UInt8 := [43, 44, 180, 0, 39, 166, 0, 29, 42, 44, 89, 76, 184, 0, 133, 75, 43, 180, 0, 9, 89, 77]
abbrev dktJ28_balanceInsertion_8 : List UInt8 := dkwJ28_balanceInsertion_8 ++ dktJ28_balanceInsertion_9
def dkwJ28_balanceInsertion_7 : List UInt8 := [153, 0, 24, 25, 4, 3, 181, 0, 93, 44, 3, 181, 0, 93, 45, 4, 181, 0, 93, 45, 76, 167, 255, 80]
abbrev dktJ28_balanceInsertion_7 : List UInt8 := dkwJ28_balanceInsertion_7 ++ dktJ28_balanceInsertion_8
def dkwJ28_balanceInsertion_6 : List UInt8 := [181, 0, 93, 42, 45, 184, 0, 133, 75, 167, 255, 114, 25, 4, 198, 0, 32, 25, 4, 180, 0, 93]
abbrev dktJ28_balanceInsertion_6 : List UInt8 := dkwJ28_balanceInsertion_6 ++ dktJ28_balanceInsertion_7
def dkwJ28_balanceInsertion_5 : List UInt8 := [167, 0, 7, 44, 180, 0, 9, 78, 44, 198, 255, 137, 44, 3, 181, 0, 93, 45, 198, 255, 128, 45, 4]
abbrev dktJ28_balanceInsertion_5 : List UInt8 := dkwJ28_balanceInsertion_5 ++ dktJ28_balanceInsertion_6
def dkwJ28_balanceInsertion_4 : List UInt8 := [180, 0, 42, 166, 0, 29, 42, 44, 89, 76, 184, 0, 130, 75, 43, 180, 0, 9, 89, 77, 199, 0, 7, 1]
abbrev dktJ28_balanceInsertion_4 : List UInt8 := dkwJ28_balanceInsertion_4 ++ dktJ28_balanceInsertion_5
def dkwJ28_balanceInsertion_3 : List UInt8 := [25, 5, 3, 181, 0, 93, 44, 3, 181, 0, 93, 45, 4, 181, 0, 93, 45, 76, 167, 255, 175, 43, 44]
abbrev dktJ28_balanceInsertion_3 : List UInt8 := dkwJ28_balanceInsertion_3 ++ dktJ28_balanceInsertion_4
def dkwJ28_balanceInsertion_2 : List UInt8 := [58, 4, 166, 0, 103, 45, 180, 0, 42, 89, 58, 5, 198, 0, 32, 25, 5, 180, 0, 93, 153, 0, 24]
abbrev dktJ28_balanceInsertion_2 : List UInt8 := dkwJ28_balanceInsertion_2 ++ dktJ28_balanceInsertion_3
def dkwJ28_balanceInsertion_1 : List UInt8 := [180, 0, 93, 153, 0, 12, 44, 180, 0, 9, 89, 78, 199, 0, 5, 42, 176, 44, 45, 180, 0, 39, 89]
abbrev dktJ28_balanceInsertion_1 : List UInt8 := dkwJ28_balanceInsertion_1 ++ dktJ28_balanceInsertion_2
def dkwJ28_balanceInsertion_0 : List UInt8 := [43, 4, 181, 0, 93, 43, 180, 0, 9, 89, 77, 199, 0, 10, 43, 3, 181, 0, 93, 43, 176, 44]
abbrev dktJ28_balanceInsertion_0 : List UInt8 := dkwJ28_balanceInsertion_0 ++ dktJ28_balanceInsertion_1
theorem dksJ28_balanceInsertion_0 : cJ28_balanceInsertion.data.toList.drop 0 = dktJ28_balanceInsertion_0 := by decide +kernel
theorem dksJ28_balanceInsertion_1 : cJ28_balanceInsertion.data.toList.drop 22 = dktJ28_balanceInsertion_1 := dk_seg dksJ28_balanceInsertion_0 22 rfl rfl
theorem dksJ28_balanceInsertion_2 : cJ28_balanceInsertion.data.toList.drop 45 = dktJ28_balanceInsertion_2 := dk_seg dksJ28_balanceInsertion_1 23 rfl rfl
theorem dksJ28_balanceInsertion_3 : cJ28_balanceInsertion.data.toList.drop 68 = dktJ28_balanceInsertion_3 := dk_seg dksJ28_balanceInsertion_2 23 rfl rfl
theorem dksJ28_balanceInsertion_4 : cJ28_balanceInsertion.data.toList.drop 91 = dktJ28_balanceInsertion_4 := dk_seg dksJ28_balanceInsertion_3 23 rfl rfl
theorem dksJ28_balanceInsertion_5 : cJ28_balanceInsertion.data.toList.drop 115 = dktJ28_balanceInsertion_5 := dk_seg dksJ28_balanceInsertion_4 24 rfl rfl
theorem dksJ28_balanceInsertion_6 : cJ28_balanceInsertion.data.toList.drop 138 = dktJ28_balanceInsertion_6 := dk_seg dksJ28_balanceInsertion_5 23 rfl rfl
theorem dksJ28_balanceInsertion_7 : cJ28_balanceInsertion.data.toList.drop 160 = dktJ28_balanceInsertion_7 := dk_seg dksJ28_balanceInsertion_6 22 rfl rfl
theorem dksJ28_balanceInsertion_8 : cJ28_balanceInsertion.data.toList.drop 184 = dktJ28_balanceInsertion_8 := dk_seg dksJ28_balanceInsertion_7 24 rfl rfl
theorem dksJ28_balanceInsertion_9 : cJ28_balanceInsertion.data.toList.drop 206 = dktJ28_balanceInsertion_9 := dk_seg dksJ28_balanceInsertion_8 22 rfl rfl
theorem dksJ28_balanceInsertion_10 : cJ28_balanceInsertion.data.toList.drop 228 = dktJ28_balanceInsertion_10 := dk_seg dksJ28_balanceInsertion_9 22 rfl rfl
theorem dJ28_balanceInsertion_0 : decode cJ28_balanceInsertion 0 = .ok (.aload_n 1, 1) := dk_43 (dk_at dksJ28_balanceInsertion_0 0 rfl rfl)
theorem dJ28_balanceInsertion_1 : decode cJ28_balanceInsertion 1 = .ok (.iconst 1, 1) := dk_4 (dk_at dksJ28_balanceInsertion_0 1 rfl rfl)
theorem dJ28_balanceInsertion_2 : decode cJ28_balanceInsertion 2 = .ok (.putfield 93, 3) := dk_181 0 93 (dk_at dksJ28_balanceInsertion_0 2 rfl rfl)
theorem dJ28_balanceInsertion_5 : decode cJ28_balanceInsertion 5 = .ok (.aload_n 1, 1) := dk_43 (dk_at dksJ28_balanceInsertion_0 5 rfl rfl)
theorem dJ28_balanceInsertion_6 : decode cJ28_balanceInsertion 6 = .ok (.getfield 9, 3) := dk_180 0 9 (dk_at dksJ28_balanceInsertion_0 6 rfl rfl)
theorem dJ28_balanceInsertion_9 : decode cJ28_balanceInsertion 9 = .ok (.dup, 1) := dk_89 (dk_at dksJ28_balanceInsertion_0 9 rfl rfl)
theorem dJ28_balanceInsertion_10 : decode cJ28_balanceInsertion 10 = .ok (.astore_n 2, 1) := dk_77 (dk_at dksJ28_balanceInsertion_0 10 rfl rfl)
theorem dJ28_balanceInsertion_11 : decode cJ28_balanceInsertion 11 = .ok (.ifnonnull 10, 3) := dk_199 0 10 (dk_at dksJ28_balanceInsertion_0 11 rfl rfl)
theorem dJ28_balanceInsertion_14 : decode cJ28_balanceInsertion 14 = .ok (.aload_n 1, 1) := dk_43 (dk_at dksJ28_balanceInsertion_0 14 rfl rfl)
theorem dJ28_balanceInsertion_15 : decode cJ28_balanceInsertion 15 = .ok (.iconst 0, 1) := dk_3 (dk_at dksJ28_balanceInsertion_0 15 rfl rfl)
theorem dJ28_balanceInsertion_16 : decode cJ28_balanceInsertion 16 = .ok (.putfield 93, 3) := dk_181 0 93 (dk_at dksJ28_balanceInsertion_0 16 rfl rfl)
theorem dJ28_balanceInsertion_19 : decode cJ28_balanceInsertion 19 = .ok (.aload_n 1, 1) := dk_43 (dk_at dksJ28_balanceInsertion_0 19 rfl rfl)
theorem dJ28_balanceInsertion_20 : decode cJ28_balanceInsertion 20 = .ok (.areturn, 1) := dk_176 (dk_at dksJ28_balanceInsertion_0 20 rfl rfl)
theorem dJ28_balanceInsertion_21 : decode cJ28_balanceInsertion 21 = .ok (.aload_n 2, 1) := dk_44 (dk_at dksJ28_balanceInsertion_0 21 rfl rfl)
theorem dJ28_balanceInsertion_22 : decode cJ28_balanceInsertion 22 = .ok (.getfield 93, 3) := dk_180 0 93 (dk_at dksJ28_balanceInsertion_1 0 rfl rfl)
theorem dJ28_balanceInsertion_25 : decode cJ28_balanceInsertion 25 = .ok (.ifCond .eq 12, 3) := dk_153 0 12 (dk_at dksJ28_balanceInsertion_1 3 rfl rfl)
theorem dJ28_balanceInsertion_28 : decode cJ28_balanceInsertion 28 = .ok (.aload_n 2, 1) := dk_44 (dk_at dksJ28_balanceInsertion_1 6 rfl rfl)
theorem dJ28_balanceInsertion_29 : decode cJ28_balanceInsertion 29 = .ok (.getfield 9, 3) := dk_180 0 9 (dk_at dksJ28_balanceInsertion_1 7 rfl rfl)
theorem dJ28_balanceInsertion_32 : decode cJ28_balanceInsertion 32 = .ok (.dup, 1) := dk_89 (dk_at dksJ28_balanceInsertion_1 10 rfl rfl)
theorem dJ28_balanceInsertion_33 : decode cJ28_balanceInsertion 33 = .ok (.astore_n 3, 1) := dk_78 (dk_at dksJ28_balanceInsertion_1 11 rfl rfl)
theorem dJ28_balanceInsertion_34 : decode cJ28_balanceInsertion 34 = .ok (.ifnonnull 5, 3) := dk_199 0 5 (dk_at dksJ28_balanceInsertion_1 12 rfl rfl)
theorem dJ28_balanceInsertion_37 : decode cJ28_balanceInsertion 37 = .ok (.aload_n 0, 1) := dk_42 (dk_at dksJ28_balanceInsertion_1 15 rfl rfl)
theorem dJ28_balanceInsertion_38 : decode cJ28_balanceInsertion 38 = .ok (.areturn, 1) := dk_176 (dk_at dksJ28_balanceInsertion_1 16 rfl rfl)
theorem dJ28_balanceInsertion_39 : decode cJ28_balanceInsertion 39 = .ok (.aload_n 2, 1) := dk_44 (dk_at dksJ28_balanceInsertion_1 17 rfl rfl)
theorem dJ28_balanceInsertion_40 : decode cJ28_balanceInsertion 40 = .ok (.aload_n 3, 1) := dk_45 (dk_at dksJ28_balanceInsertion_1 18 rfl rfl)
theorem dJ28_balanceInsertion_41 : decode cJ28_balanceInsertion 41 = .ok (.getfield 39, 3) := dk_180 0 39 (dk_at dksJ28_balanceInsertion_1 19 rfl rfl)
theorem dJ28_balanceInsertion_44 : decode cJ28_balanceInsertion 44 = .ok (.dup, 1) := dk_89 (dk_at dksJ28_balanceInsertion_1 22 rfl rfl)
theorem dJ28_balanceInsertion_45 : decode cJ28_balanceInsertion 45 = .ok (.astore 4, 2) := dk_58 4 (dk_at dksJ28_balanceInsertion_2 0 rfl rfl)
theorem dJ28_balanceInsertion_47 : decode cJ28_balanceInsertion 47 = .ok (.if_acmp .ne 103, 3) := dk_166 0 103 (dk_at dksJ28_balanceInsertion_2 2 rfl rfl)
theorem dJ28_balanceInsertion_50 : decode cJ28_balanceInsertion 50 = .ok (.aload_n 3, 1) := dk_45 (dk_at dksJ28_balanceInsertion_2 5 rfl rfl)
theorem dJ28_balanceInsertion_51 : decode cJ28_balanceInsertion 51 = .ok (.getfield 42, 3) := dk_180 0 42 (dk_at dksJ28_balanceInsertion_2 6 rfl rfl)
theorem dJ28_balanceInsertion_54 : decode cJ28_balanceInsertion 54 = .ok (.dup, 1) := dk_89 (dk_at dksJ28_balanceInsertion_2 9 rfl rfl)
theorem dJ28_balanceInsertion_55 : decode cJ28_balanceInsertion 55 = .ok (.astore 5, 2) := dk_58 5 (dk_at dksJ28_balanceInsertion_2 10 rfl rfl)
theorem dJ28_balanceInsertion_57 : decode cJ28_balanceInsertion 57 = .ok (.ifnull 32, 3) := dk_198 0 32 (dk_at dksJ28_balanceInsertion_2 12 rfl rfl)
theorem dJ28_balanceInsertion_60 : decode cJ28_balanceInsertion 60 = .ok (.aload 5, 2) := dk_25 5 (dk_at dksJ28_balanceInsertion_2 15 rfl rfl)
theorem dJ28_balanceInsertion_62 : decode cJ28_balanceInsertion 62 = .ok (.getfield 93, 3) := dk_180 0 93 (dk_at dksJ28_balanceInsertion_2 17 rfl rfl)
theorem dJ28_balanceInsertion_65 : decode cJ28_balanceInsertion 65 = .ok (.ifCond .eq 24, 3) := dk_153 0 24 (dk_at dksJ28_balanceInsertion_2 20 rfl rfl)
theorem dJ28_balanceInsertion_68 : decode cJ28_balanceInsertion 68 = .ok (.aload 5, 2) := dk_25 5 (dk_at dksJ28_balanceInsertion_3 0 rfl rfl)
theorem dJ28_balanceInsertion_70 : decode cJ28_balanceInsertion 70 = .ok (.iconst 0, 1) := dk_3 (dk_at dksJ28_balanceInsertion_3 2 rfl rfl)
theorem dJ28_balanceInsertion_71 : decode cJ28_balanceInsertion 71 = .ok (.putfield 93, 3) := dk_181 0 93 (dk_at dksJ28_balanceInsertion_3 3 rfl rfl)
theorem dJ28_balanceInsertion_74 : decode cJ28_balanceInsertion 74 = .ok (.aload_n 2, 1) := dk_44 (dk_at dksJ28_balanceInsertion_3 6 rfl rfl)
theorem dJ28_balanceInsertion_75 : decode cJ28_balanceInsertion 75 = .ok (.iconst 0, 1) := dk_3 (dk_at dksJ28_balanceInsertion_3 7 rfl rfl)
theorem dJ28_balanceInsertion_76 : decode cJ28_balanceInsertion 76 = .ok (.putfield 93, 3) := dk_181 0 93 (dk_at dksJ28_balanceInsertion_3 8 rfl rfl)
theorem dJ28_balanceInsertion_79 : decode cJ28_balanceInsertion 79 = .ok (.aload_n 3, 1) := dk_45 (dk_at dksJ28_balanceInsertion_3 11 rfl rfl)
theorem dJ28_balanceInsertion_80 : decode cJ28_balanceInsertion 80 = .ok (.iconst 1, 1) := dk_4 (dk_at dksJ28_balanceInsertion_3 12 rfl rfl)
theorem dJ28_balanceInsertion_81 : decode cJ28_balanceInsertion 81 = .ok (.putfield 93, 3) := dk_181 0 93 (dk_at dksJ28_balanceInsertion_3 13 rfl rfl)
theorem dJ28_balanceInsertion_84 : decode cJ28_balanceInsertion 84 = .ok (.aload_n 3, 1) := dk_45 (dk_at dksJ28_balanceInsertion_3 16 rfl rfl)
theorem dJ28_balanceInsertion_85 : decode cJ28_balanceInsertion 85 = .ok (.astore_n 1, 1) := dk_76 (dk_at dksJ28_balanceInsertion_3 17 rfl rfl)
theorem dJ28_balanceInsertion_86 : decode cJ28_balanceInsertion 86 = .ok (.goto (-81), 3) := dk_167 255 175 (dk_at dksJ28_balanceInsertion_3 18 rfl rfl)
theorem dJ28_balanceInsertion_89 : decode cJ28_balanceInsertion 89 = .ok (.aload_n 1, 1) := dk_43 (dk_at dksJ28_balanceInsertion_3 21 rfl rfl)
theorem dJ28_balanceInsertion_90 : decode cJ28_balanceInsertion 90 = .ok (.aload_n 2, 1) := dk_44 (dk_at dksJ28_balanceInsertion_3 22 rfl rfl)
theorem dJ28_balanceInsertion_91 : decode cJ28_balanceInsertion 91 = .ok (.getfield 42, 3) := dk_180 0 42 (dk_at dksJ28_balanceInsertion_4 0 rfl rfl)
theorem dJ28_balanceInsertion_94 : decode cJ28_balanceInsertion 94 = .ok (.if_acmp .ne 29, 3) := dk_166 0 29 (dk_at dksJ28_balanceInsertion_4 3 rfl rfl)
theorem dJ28_balanceInsertion_97 : decode cJ28_balanceInsertion 97 = .ok (.aload_n 0, 1) := dk_42 (dk_at dksJ28_balanceInsertion_4 6 rfl rfl)
theorem dJ28_balanceInsertion_98 : decode cJ28_balanceInsertion 98 = .ok (.aload_n 2, 1) := dk_44 (dk_at dksJ28_balanceInsertion_4 7 rfl rfl)
theorem dJ28_balanceInsertion_99 : decode cJ28_balanceInsertion 99 = .ok (.dup, 1) := dk_89 (dk_at dksJ28_balanceInsertion_4 8 rfl rfl)
theorem dJ28_balanceInsertion_100 : decode cJ28_balanceInsertion 100 = .ok (.astore_n 1, 1) := dk_76 (dk_at dksJ28_balanceInsertion_4 9 rfl rfl)
theorem dJ28_balanceInsertion_101 : decode cJ28_balanceInsertion 101 = .ok (.invokestatic 130, 3) := dk_184 0 130 (dk_at dksJ28_balanceInsertion_4 10 rfl rfl)
theorem dJ28_balanceInsertion_104 : decode cJ28_balanceInsertion 104 = .ok (.astore_n 0, 1) := dk_75 (dk_at dksJ28_balanceInsertion_4 13 rfl rfl)
theorem dJ28_balanceInsertion_105 : decode cJ28_balanceInsertion 105 = .ok (.aload_n 1, 1) := dk_43 (dk_at dksJ28_balanceInsertion_4 14 rfl rfl)
theorem dJ28_balanceInsertion_106 : decode cJ28_balanceInsertion 106 = .ok (.getfield 9, 3) := dk_180 0 9 (dk_at dksJ28_balanceInsertion_4 15 rfl rfl)
theorem dJ28_balanceInsertion_109 : decode cJ28_balanceInsertion 109 = .ok (.dup, 1) := dk_89 (dk_at dksJ28_balanceInsertion_4 18 rfl rfl)
theorem dJ28_balanceInsertion_110 : decode cJ28_balanceInsertion 110 = .ok (.astore_n 2, 1) := dk_77 (dk_at dksJ28_balanceInsertion_4 19 rfl rfl)
theorem dJ28_balanceInsertion_111 : decode cJ28_balanceInsertion 111 = .ok (.ifnonnull 7, 3) := dk_199 0 7 (dk_at dksJ28_balanceInsertion_4 20 rfl rfl)
theorem dJ28_balanceInsertion_114 : decode cJ28_balanceInsertion 114 = .ok (.aconst_null, 1) := dk_1 (dk_at dksJ28_balanceInsertion_4 23 rfl rfl)
theorem dJ28_balanceInsertion_115 : decode cJ28_balanceInsertion 115 = .ok (.goto 7, 3) := dk_167 0 7 (dk_at dksJ28_balanceInsertion_5 0 rfl rfl)
theorem dJ28_balanceInsertion_118 : decode cJ28_balanceInsertion 118 = .ok (.aload_n 2, 1) := dk_44 (dk_at dksJ28_balanceInsertion_5 3 rfl rfl)
theorem dJ28_balanceInsertion_119 : decode cJ28_balanceInsertion 119 = .ok (.getfield 9, 3) := dk_180 0 9 (dk_at dksJ28_balanceInsertion_5 4 rfl rfl)
theorem dJ28_balanceInsertion_122 : decode cJ28_balanceInsertion 122 = .ok (.astore_n 3, 1) := dk_78 (dk_at dksJ28_balanceInsertion_5 7 rfl rfl)
theorem dJ28_balanceInsertion_123 : decode cJ28_balanceInsertion 123 = .ok (.aload_n 2, 1) := dk_44 (dk_at dksJ28_balanceInsertion_5 8 rfl rfl)
theorem dJ28_balanceInsertion_124 : decode cJ28_balanceInsertion 124 = .ok (.ifnull (-119), 3) := dk_198 255 137 (dk_at dksJ28_balanceInsertion_5 9 rfl rfl)
theorem dJ28_balanceInsertion_127 : decode cJ28_balanceInsertion 127 = .ok (.aload_n 2, 1) := dk_44 (dk_at dksJ28_balanceInsertion_5 12 rfl rfl)
theorem dJ28_balanceInsertion_128 : decode cJ28_balanceInsertion 128 = .ok (.iconst 0, 1) := dk_3 (dk_at dksJ28_balanceInsertion_5 13 rfl rfl)
theorem dJ28_balanceInsertion_129 : decode cJ28_balanceInsertion 129 = .ok (.putfield 93, 3) := dk_181 0 93 (dk_at dksJ28_balanceInsertion_5 14 rfl rfl)
theorem dJ28_balanceInsertion_132 : decode cJ28_balanceInsertion 132 = .ok (.aload_n 3, 1) := dk_45 (dk_at dksJ28_balanceInsertion_5 17 rfl rfl)
theorem dJ28_balanceInsertion_133 : decode cJ28_balanceInsertion 133 = .ok (.ifnull (-128), 3) := dk_198 255 128 (dk_at dksJ28_balanceInsertion_5 18 rfl rfl)
theorem dJ28_balanceInsertion_136 : decode cJ28_balanceInsertion 136 = .ok (.aload_n 3, 1) := dk_45 (dk_at dksJ28_balanceInsertion_5 21 rfl rfl)
theorem dJ28_balanceInsertion_137 : decode cJ28_balanceInsertion 137 = .ok (.iconst 1, 1) := dk_4 (dk_at dksJ28_balanceInsertion_5 22 rfl rfl)
theorem dJ28_balanceInsertion_138 : decode cJ28_balanceInsertion 138 = .ok (.putfield 93, 3) := dk_181 0 93 (dk_at dksJ28_balanceInsertion_6 0 rfl rfl)
theorem dJ28_balanceInsertion_141 : decode cJ28_balanceInsertion 141 = .ok (.aload_n 0, 1) := dk_42 (dk_at dksJ28_balanceInsertion_6 3 rfl rfl)
theorem dJ28_balanceInsertion_142 : decode cJ28_balanceInsertion 142 = .ok (.aload_n 3, 1) := dk_45 (dk_at dksJ28_balanceInsertion_6 4 rfl rfl)
theorem dJ28_balanceInsertion_143 : decode cJ28_balanceInsertion 143 = .ok (.invokestatic 133, 3) := dk_184 0 133 (dk_at dksJ28_balanceInsertion_6 5 rfl rfl)
theorem dJ28_balanceInsertion_146 : decode cJ28_balanceInsertion 146 = .ok (.astore_n 0, 1) := dk_75 (dk_at dksJ28_balanceInsertion_6 8 rfl rfl)
theorem dJ28_balanceInsertion_147 : decode cJ28_balanceInsertion 147 = .ok (.goto (-142), 3) := dk_167 255 114 (dk_at dksJ28_balanceInsertion_6 9 rfl rfl)
theorem dJ28_balanceInsertion_150 : decode cJ28_balanceInsertion 150 = .ok (.aload 4, 2) := dk_25 4 (dk_at dksJ28_balanceInsertion_6 12 rfl rfl)
theorem dJ28_balanceInsertion_152 : decode cJ28_balanceInsertion 152 = .ok (.ifnull 32, 3) := dk_198 0 32 (dk_at dksJ28_balanceInsertion_6 14 rfl rfl)
theorem dJ28_balanceInsertion_155 : decode cJ28_balanceInsertion 155 = .ok (.aload 4, 2) := dk_25 4 (dk_at dksJ28_balanceInsertion_6 17 rfl rfl)
theorem dJ28_balanceInsertion_157 : decode cJ28_balanceInsertion 157 = .ok (.getfield 93, 3) := dk_180 0 93 (dk_at dksJ28_balanceInsertion_6 19 rfl rfl)
theorem dJ28_balanceInsertion_160 : decode cJ28_balanceInsertion 160 = .ok (.ifCond .eq 24, 3) := dk_153 0 24 (dk_at dksJ28_balanceInsertion_7 0 rfl rfl)
theorem dJ28_balanceInsertion_163 : decode cJ28_balanceInsertion 163 = .ok (.aload 4, 2) := dk_25 4 (dk_at dksJ28_balanceInsertion_7 3 rfl rfl)
theorem dJ28_balanceInsertion_165 : decode cJ28_balanceInsertion 165 = .ok (.iconst 0, 1) := dk_3 (dk_at dksJ28_balanceInsertion_7 5 rfl rfl)
theorem dJ28_balanceInsertion_166 : decode cJ28_balanceInsertion 166 = .ok (.putfield 93, 3) := dk_181 0 93 (dk_at dksJ28_balanceInsertion_7 6 rfl rfl)
theorem dJ28_balanceInsertion_169 : decode cJ28_balanceInsertion 169 = .ok (.aload_n 2, 1) := dk_44 (dk_at dksJ28_balanceInsertion_7 9 rfl rfl)
theorem dJ28_balanceInsertion_170 : decode cJ28_balanceInsertion 170 = .ok (.iconst 0, 1) := dk_3 (dk_at dksJ28_balanceInsertion_7 10 rfl rfl)
theorem dJ28_balanceInsertion_171 : decode cJ28_balanceInsertion 171 = .ok (.putfield 93, 3) := dk_181 0 93 (dk_at dksJ28_balanceInsertion_7 11 rfl rfl)
theorem dJ28_balanceInsertion_174 : decode cJ28_balanceInsertion 174 = .ok (.aload_n 3, 1) := dk_45 (dk_at dksJ28_balanceInsertion_7 14 rfl rfl)
theorem dJ28_balanceInsertion_175 : decode cJ28_balanceInsertion 175 = .ok (.iconst 1, 1) := dk_4 (dk_at dksJ28_balanceInsertion_7 15 rfl rfl)
theorem dJ28_balanceInsertion_176 : decode cJ28_balanceInsertion 176 = .ok (.putfield 93, 3) := dk_181 0 93 (dk_at dksJ28_balanceInsertion_7 16 rfl rfl)
theorem dJ28_balanceInsertion_179 : decode cJ28_balanceInsertion 179 = .ok (.aload_n 3, 1) := dk_45 (dk_at dksJ28_balanceInsertion_7 19 rfl rfl)
theorem dJ28_balanceInsertion_180 : decode cJ28_balanceInsertion 180 = .ok (.astore_n 1, 1) := dk_76 (dk_at dksJ28_balanceInsertion_7 20 rfl rfl)
theorem dJ28_balanceInsertion_181 : decode cJ28_balanceInsertion 181 = .ok (.goto (-176), 3) := dk_167 255 80 (dk_at dksJ28_balanceInsertion_7 21 rfl rfl)
theorem dJ28_balanceInsertion_184 : decode cJ28_balanceInsertion 184 = .ok (.aload_n 1, 1) := dk_43 (dk_at dksJ28_balanceInsertion_8 0 rfl rfl)
theorem dJ28_balanceInsertion_185 : decode cJ28_balanceInsertion 185 = .ok (.aload_n 2, 1) := dk_44 (dk_at dksJ28_balanceInsertion_8 1 rfl rfl)
theorem dJ28_balanceInsertion_186 : decode cJ28_balanceInsertion 186 = .ok (.getfield 39, 3) := dk_180 0 39 (dk_at dksJ28_balanceInsertion_8 2 rfl rfl)
theorem dJ28_balanceInsertion_189 : decode cJ28_balanceInsertion 189 = .ok (.if_acmp .ne 29, 3) := dk_166 0 29 (dk_at dksJ28_balanceInsertion_8 5 rfl rfl)
theorem dJ28_balanceInsertion_192 : decode cJ28_balanceInsertion 192 = .ok (.aload_n 0, 1) := dk_42 (dk_at dksJ28_balanceInsertion_8 8 rfl rfl)
theorem dJ28_balanceInsertion_193 : decode cJ28_balanceInsertion 193 = .ok (.aload_n 2, 1) := dk_44 (dk_at dksJ28_balanceInsertion_8 9 rfl rfl)
theorem dJ28_balanceInsertion_194 : decode cJ28_balanceInsertion 194 = .ok (.dup, 1) := dk_89 (dk_at dksJ28_balanceInsertion_8 10 rfl rfl)
theorem dJ28_balanceInsertion_195 : decode cJ28_balanceInsertion 195 = .ok (.astore_n 1, 1) := dk_76 (dk_at dksJ28_balanceInsertion_8 11 rfl rfl)
theorem dJ28_balanceInsertion_196 : decode cJ28_balanceInsertion 196 = .ok (.invokestatic 133, 3) := dk_184 0 133 (dk_at dksJ28_balanceInsertion_8 12 rfl rfl)
theorem dJ28_balanceInsertion_199 : decode cJ28_balanceInsertion 199 = .ok (.astore_n 0, 1) := dk_75 (dk_at dksJ28_balanceInsertion_8 15 rfl rfl)
theorem dJ28_balanceInsertion_200 : decode cJ28_balanceInsertion 200 = .ok (.aload_n 1, 1) := dk_43 (dk_at dksJ28_balanceInsertion_8 16 rfl rfl)
theorem dJ28_balanceInsertion_201 : decode cJ28_balanceInsertion 201 = .ok (.getfield 9, 3) := dk_180 0 9 (dk_at dksJ28_balanceInsertion_8 17 rfl rfl)
theorem dJ28_balanceInsertion_204 : decode cJ28_balanceInsertion 204 = .ok (.dup, 1) := dk_89 (dk_at dksJ28_balanceInsertion_8 20 rfl rfl)
theorem dJ28_balanceInsertion_205 : decode cJ28_balanceInsertion 205 = .ok (.astore_n 2, 1) := dk_77 (dk_at dksJ28_balanceInsertion_8 21 rfl rfl)
theorem dJ28_balanceInsertion_206 : decode cJ28_balanceInsertion 206 = .ok (.ifnonnull 7, 3) := dk_199 0 7 (dk_at dksJ28_balanceInsertion_9 0 rfl rfl)
theorem dJ28_balanceInsertion_209 : decode cJ28_balanceInsertion 209 = .ok (.aconst_null, 1) := dk_1 (dk_at dksJ28_balanceInsertion_9 3 rfl rfl)
theorem dJ28_balanceInsertion_210 : decode cJ28_balanceInsertion 210 = .ok (.goto 7, 3) := dk_167 0 7 (dk_at dksJ28_balanceInsertion_9 4 rfl rfl)
theorem dJ28_balanceInsertion_213 : decode cJ28_balanceInsertion 213 = .ok (.aload_n 2, 1) := dk_44 (dk_at dksJ28_balanceInsertion_9 7 rfl rfl)
theorem dJ28_balanceInsertion_214 : decode cJ28_balanceInsertion 214 = .ok (.getfield 9, 3) := dk_180 0 9 (dk_at dksJ28_balanceInsertion_9 8 rfl rfl)
theorem dJ28_balanceInsertion_217 : decode cJ28_balanceInsertion 217 = .ok (.astore_n 3, 1) := dk_78 (dk_at dksJ28_balanceInsertion_9 11 rfl rfl)
theorem dJ28_balanceInsertion_218 : decode cJ28_balanceInsertion 218 = .ok (.aload_n 2, 1) := dk_44 (dk_at dksJ28_balanceInsertion_9 12 rfl rfl)
theorem dJ28_balanceInsertion_219 : decode cJ28_balanceInsertion 219 = .ok (.ifnull (-214), 3) := dk_198 255 42 (dk_at dksJ28_balanceInsertion_9 13 rfl rfl)
theorem dJ28_balanceInsertion_222 : decode cJ28_balanceInsertion 222 = .ok (.aload_n 2, 1) := dk_44 (dk_at dksJ28_balanceInsertion_9 16 rfl rfl)
theorem dJ28_balanceInsertion_223 : decode cJ28_balanceInsertion 223 = .ok (.iconst 0, 1) := dk_3 (dk_at dksJ28_balanceInsertion_9 17 rfl rfl)
theorem dJ28_balanceInsertion_224 : decode cJ28_balanceInsertion 224 = .ok (.putfield 93, 3) := dk_181 0 93 (dk_at dksJ28_balanceInsertion_9 18 rfl rfl)
theorem dJ28_balanceInsertion_227 : decode cJ28_balanceInsertion 227 = .ok (.aload_n 3, 1) := dk_45 (dk_at dksJ28_balanceInsertion_9 21 rfl rfl)
theorem dJ28_balanceInsertion_228 : decode cJ28_balanceInsertion 228 = .ok (.ifnull (-223), 3) := dk_198 255 33 (dk_at dksJ28_balanceInsertion_10 0 rfl rfl)
theorem dJ28_balanceInsertion_231 : decode cJ28_balanceInsertion 231 = .ok (.aload_n 3, 1) := dk_45 (dk_at dksJ28_balanceInsertion_10 3 rfl rfl)
theorem dJ28_balanceInsertion_232 : decode cJ28_balanceInsertion 232 = .ok (.iconst 1, 1) := dk_4 (dk_at dksJ28_balanceInsertion_10 4 rfl rfl)
theorem dJ28_balanceInsertion_233 : decode cJ28_balanceInsertion 233 = .ok (.putfield 93, 3) := dk_181 0 93 (dk_at dksJ28_balanceInsertion_10 5 rfl rfl)
theorem dJ28_balanceInsertion_236 : decode cJ28_balanceInsertion 236 = .ok (.aload_n 0, 1) := dk_42 (dk_at dksJ28_balanceInsertion_10 8 rfl rfl)
theorem dJ28_balanceInsertion_237 : decode cJ28_balanceInsertion 237 = .ok (.aload_n 3, 1) := dk_45 (dk_at dksJ28_balanceInsertion_10 9 rfl rfl)
theorem dJ28_balanceInsertion_238 : decode cJ28_balanceInsertion 238 = .ok (.invokestatic 130, 3) := dk_184 0 130 (dk_at dksJ28_balanceInsertion_10 10 rfl rfl)
theorem dJ28_balanceInsertion_241 : decode cJ28_balanceInsertion 241 = .ok (.astore_n 0, 1) := dk_75 (dk_at dksJ28_balanceInsertion_10 13 rfl rfl)
theorem dJ28_balanceInsertion_242 : decode cJ28_balanceInsertion 242 = .ok (.goto (-237), 3) := dk_167 255 19 (dk_at dksJ28_balanceInsertion_10 14 rfl rfl)
abbrev cJ28_rotateLeft : ByteArray := prog_86_method_12_code
def yJ28_rotateLeft : MethodName := ⟨RJ28, "rotateLeft", "(Ljava/util/HashMap$TreeNode;Ljava/util/HashMap$TreeNode;)Ljava/util/HashMap$TreeNode;"⟩
def dkwJ28_rotateLeft_3 : List UInt8 := [181, 0, 39, 167, 0, 8, 45, 44, 181, 0, 42, 44, 43, 181, 0, 39, 43, 44, 181, 0, 9, 42, 176]
abbrev dktJ28_rotateLeft_3 : List UInt8 := dkwJ28_rotateLeft_3 ++ []
def dkwJ28_rotateLeft_2 : List UInt8 := [199, 0, 13, 44, 89, 75, 3, 181, 0, 93, 167, 0, 24, 45, 180, 0, 39, 43, 166, 0, 11, 45, 44]
abbrev dktJ28_rotateLeft_2 : List UInt8 := dkwJ28_rotateLeft_2 ++ dktJ28_rotateLeft_3
def dkwJ28_rotateLeft_1 : List UInt8 := [58, 4, 198, 0, 9, 25, 4, 43, 181, 0, 9, 44, 43, 180, 0, 9, 90, 181, 0, 9, 89, 78]
abbrev dktJ28_rotateLeft_1 : List UInt8 := dkwJ28_rotateLeft_1 ++ dktJ28_rotateLeft_2
def dkwJ28_rotateLeft_0 : List UInt8 := [43, 198, 0, 88, 43, 180, 0, 42, 89, 77, 198, 0, 79, 43, 44, 180, 0, 39, 90, 181, 0, 42, 89]
abbrev dktJ28_rotateLeft_0 : List UInt8 := dkwJ28_rotateLeft_0 ++ dktJ28_rotateLeft_1
theorem dksJ28_rotateLeft_0 : cJ28_rotateLeft.data.toList.drop 0 = dktJ28_rotateLeft_0 := by decide +kernel
theorem dksJ28_rotateLeft_1 : cJ28_rotateLeft.data.toList.drop 23 = dktJ28_rotateLeft_1 := dk_seg dksJ28_rotateLeft_0 23 rfl rfl
theorem dksJ28_rotateLeft_2 : cJ28_rotateLeft.data.toList.drop 45 = dktJ28_rotateLeft_2 := dk_seg dksJ28_rotateLeft_1 22 rfl rfl
theorem dksJ28_rotateLeft_3 : cJ28_rotateLeft.data.toList.drop 68 = dktJ28_rotateLeft_3 := dk_seg dksJ28_rotateLeft_2 23 rfl rfl
theorem dJ28_rotateLeft_0 : decode cJ28_rotateLeft 0 = .ok (.aload_n 1, 1) := dk_43 (dk_at dksJ28_rotateLeft_0 0 rfl rfl)
theorem dJ28_rotateLeft_1 : decode cJ28_rotateLeft 1 = .ok (.ifnull 88, 3) := dk_198 0 88 (dk_at dksJ28_rotateLeft_0 1 rfl rfl)
theorem dJ28_rotateLeft_4 : decode cJ28_rotateLeft 4 = .ok (.aload_n 1, 1) := dk_43 (dk_at dksJ28_rotateLeft_0 4 rfl rfl)
theorem dJ28_rotateLeft_5 : decode cJ28_rotateLeft 5 = .ok (.getfield 42, 3) := dk_180 0 42 (dk_at dksJ28_rotateLeft_0 5 rfl rfl)
theorem dJ28_rotateLeft_8 : decode cJ28_rotateLeft 8 = .ok (.dup, 1) := dk_89 (dk_at dksJ28_rotateLeft_0 8 rfl rfl)
theorem dJ28_rotateLeft_9 : decode cJ28_rotateLeft 9 = .ok (.astore_n 2, 1) := dk_77 (dk_at dksJ28_rotateLeft_0 9 rfl rfl)
theorem dJ28_rotateLeft_10 : decode cJ28_rotateLeft 10 = .ok (.ifnull 79, 3) := dk_198 0 79 (dk_at dksJ28_rotateLeft_0 10 rfl rfl)
theorem dJ28_rotateLeft_13 : decode cJ28_rotateLeft 13 = .ok (.aload_n 1, 1) := dk_43 (dk_at dksJ28_rotateLeft_0 13 rfl rfl)
theorem dJ28_rotateLeft_14 : decode cJ28_rotateLeft 14 = .ok (.aload_n 2, 1) := dk_44 (dk_at dksJ28_rotateLeft_0 14 rfl rfl)
theorem dJ28_rotateLeft_15 : decode cJ28_rotateLeft 15 = .ok (.getfield 39, 3) := dk_180 0 39 (dk_at dksJ28_rotateLeft_0 15 rfl rfl)
theorem dJ28_rotateLeft_18 : decode cJ28_rotateLeft 18 = .ok (.dup_x1, 1) := dk_90 (dk_at dksJ28_rotateLeft_0 18 rfl rfl)
theorem dJ28_rotateLeft_19 : decode cJ28_rotateLeft 19 = .ok (.putfield 42, 3) := dk_181 0 42 (dk_at dksJ28_rotateLeft_0 19 rfl rfl)
theorem dJ28_rotateLeft_22 : decode cJ28_rotateLeft 22 = .ok (.dup, 1) := dk_89 (dk_at dksJ28_rotateLeft_0 22 rfl rfl)
theorem dJ28_rotateLeft_23 : decode cJ28_rotateLeft 23 = .ok (.astore 4, 2) := dk_58 4 (dk_at dksJ28_rotateLeft_1 0 rfl rfl)
theorem dJ28_rotateLeft_25 : decode cJ28_rotateLeft 25 = .ok (.ifnull 9, 3) := dk_198 0 9 (dk_at dksJ28_rotateLeft_1 2 rfl rfl)
theorem dJ28_rotateLeft_28 : decode cJ28_rotateLeft 28 = .ok (.aload 4, 2) := dk_25 4 (dk_at dksJ28_rotateLeft_1 5 rfl rfl)
theorem dJ28_rotateLeft_30 : decode cJ28_rotateLeft 30 = .ok (.aload_n 1, 1) := dk_43 (dk_at dksJ28_rotateLeft_1 7 rfl rfl)
theorem dJ28_rotateLeft_31 : decode cJ28_rotateLeft 31 = .ok (.putfield 9, 3) := dk_181 0 9 (dk_at dksJ28_rotateLeft_1 8 rfl rfl)
theorem dJ28_rotateLeft_34 : decode cJ28_rotateLeft 34 = .ok (.aload_n 2, 1) := dk_44 (dk_at dksJ28_rotateLeft_1 11 rfl rfl)
theorem dJ28_rotateLeft_35 : decode cJ28_rotateLeft 35 = .ok (.aload_n 1, 1) := dk_43 (dk_at dksJ28_rotateLeft_1 12 rfl rfl)
theorem dJ28_rotateLeft_36 : decode cJ28_rotateLeft 36 = .ok (.getfield 9, 3) := dk_180 0 9 (dk_at dksJ28_rotateLeft_1 13 rfl rfl)
theorem dJ28_rotateLeft_39 : decode cJ28_rotateLeft 39 = .ok (.dup_x1, 1) := dk_90 (dk_at dksJ28_rotateLeft_1 16 rfl rfl)
theorem dJ28_rotateLeft_40 : decode cJ28_rotateLeft 40 = .ok (.putfield 9, 3) := dk_181 0 9 (dk_at dksJ28_rotateLeft_1 17 rfl rfl)
theorem dJ28_rotateLeft_43 : decode cJ28_rotateLeft 43 = .ok (.dup, 1) := dk_89 (dk_at dksJ28_rotateLeft_1 20 rfl rfl)
theorem dJ28_rotateLeft_44 : decode cJ28_rotateLeft 44 = .ok (.astore_n 3, 1) := dk_78 (dk_at dksJ28_rotateLeft_1 21 rfl rfl)
theorem dJ28_rotateLeft_45 : decode cJ28_rotateLeft 45 = .ok (.ifnonnull 13, 3) := dk_199 0 13 (dk_at dksJ28_rotateLeft_2 0 rfl rfl)
theorem dJ28_rotateLeft_48 : decode cJ28_rotateLeft 48 = .ok (.aload_n 2, 1) := dk_44 (dk_at dksJ28_rotateLeft_2 3 rfl rfl)
theorem dJ28_rotateLeft_49 : decode cJ28_rotateLeft 49 = .ok (.dup, 1) := dk_89 (dk_at dksJ28_rotateLeft_2 4 rfl rfl)
theorem dJ28_rotateLeft_50 : decode cJ28_rotateLeft 50 = .ok (.astore_n 0, 1) := dk_75 (dk_at dksJ28_rotateLeft_2 5 rfl rfl)
theorem dJ28_rotateLeft_51 : decode cJ28_rotateLeft 51 = .ok (.iconst 0, 1) := dk_3 (dk_at dksJ28_rotateLeft_2 6 rfl rfl)
theorem dJ28_rotateLeft_52 : decode cJ28_rotateLeft 52 = .ok (.putfield 93, 3) := dk_181 0 93 (dk_at dksJ28_rotateLeft_2 7 rfl rfl)
theorem dJ28_rotateLeft_55 : decode cJ28_rotateLeft 55 = .ok (.goto 24, 3) := dk_167 0 24 (dk_at dksJ28_rotateLeft_2 10 rfl rfl)
theorem dJ28_rotateLeft_58 : decode cJ28_rotateLeft 58 = .ok (.aload_n 3, 1) := dk_45 (dk_at dksJ28_rotateLeft_2 13 rfl rfl)
theorem dJ28_rotateLeft_59 : decode cJ28_rotateLeft 59 = .ok (.getfield 39, 3) := dk_180 0 39 (dk_at dksJ28_rotateLeft_2 14 rfl rfl)
theorem dJ28_rotateLeft_62 : decode cJ28_rotateLeft 62 = .ok (.aload_n 1, 1) := dk_43 (dk_at dksJ28_rotateLeft_2 17 rfl rfl)
theorem dJ28_rotateLeft_63 : decode cJ28_rotateLeft 63 = .ok (.if_acmp .ne 11, 3) := dk_166 0 11 (dk_at dksJ28_rotateLeft_2 18 rfl rfl)
theorem dJ28_rotateLeft_66 : decode cJ28_rotateLeft 66 = .ok (.aload_n 3, 1) := dk_45 (dk_at dksJ28_rotateLeft_2 21 rfl rfl)
theorem dJ28_rotateLeft_67 : decode cJ28_rotateLeft 67 = .ok (.aload_n 2, 1) := dk_44 (dk_at dksJ28_rotateLeft_2 22 rfl rfl)
theorem dJ28_rotateLeft_68 : decode cJ28_rotateLeft 68 = .ok (.putfield 39, 3) := dk_181 0 39 (dk_at dksJ28_rotateLeft_3 0 rfl rfl)
theorem dJ28_rotateLeft_71 : decode cJ28_rotateLeft 71 = .ok (.goto 8, 3) := dk_167 0 8 (dk_at dksJ28_rotateLeft_3 3 rfl rfl)
theorem dJ28_rotateLeft_74 : decode cJ28_rotateLeft 74 = .ok (.aload_n 3, 1) := dk_45 (dk_at dksJ28_rotateLeft_3 6 rfl rfl)
theorem dJ28_rotateLeft_75 : decode cJ28_rotateLeft 75 = .ok (.aload_n 2, 1) := dk_44 (dk_at dksJ28_rotateLeft_3 7 rfl rfl)
theorem dJ28_rotateLeft_76 : decode cJ28_rotateLeft 76 = .ok (.putfield 42, 3) := dk_181 0 42 (dk_at dksJ28_rotateLeft_3 8 rfl rfl)
theorem dJ28_rotateLeft_79 : decode cJ28_rotateLeft 79 = .ok (.aload_n 2, 1) := dk_44 (dk_at dksJ28_rotateLeft_3 11 rfl rfl)
theorem dJ28_rotateLeft_80 : decode cJ28_rotateLeft 80 = .ok (.aload_n 1, 1) := dk_43 (dk_at dksJ28_rotateLeft_3 12 rfl rfl)
theorem dJ28_rotateLeft_81 : decode cJ28_rotateLeft 81 = .ok (.putfield 39, 3) := dk_181 0 39 (dk_at dksJ28_rotateLeft_3 13 rfl rfl)
theorem dJ28_rotateLeft_84 : decode cJ28_rotateLeft 84 = .ok (.aload_n 1, 1) := dk_43 (dk_at dksJ28_rotateLeft_3 16 rfl rfl)
theorem dJ28_rotateLeft_85 : decode cJ28_rotateLeft 85 = .ok (.aload_n 2, 1) := dk_44 (dk_at dksJ28_rotateLeft_3 17 rfl rfl)
theorem dJ28_rotateLeft_86 : decode cJ28_rotateLeft 86 = .ok (.putfield 9, 3) := dk_181 0 9 (dk_at dksJ28_rotateLeft_3 18 rfl rfl)
theorem dJ28_rotateLeft_89 : decode cJ28_rotateLeft 89 = .ok (.aload_n 0, 1) := dk_42 (dk_at dksJ28_rotateLeft_3 21 rfl rfl)
theorem dJ28_rotateLeft_90 : decode cJ28_rotateLeft 90 = .ok (.areturn, 1) := dk_176 (dk_at dksJ28_rotateLeft_3 22 rfl rfl)
abbrev cJ28_rotateRight : ByteArray := prog_86_method_13_code
def yJ28_rotateRight : MethodName := ⟨RJ28, "rotateRight", "(Ljava/util/HashMap$TreeNode;Ljava/util/HashMap$TreeNode;)Ljava/util/HashMap$TreeNode;"⟩
def dkwJ28_rotateRight_3 : List UInt8 := [181, 0, 42, 167, 0, 8, 45, 44, 181, 0, 39, 44, 43, 181, 0, 42, 43, 44, 181, 0, 9, 42, 176]
abbrev dktJ28_rotateRight_3 : List UInt8 := dkwJ28_rotateRight_3 ++ []
def dkwJ28_rotateRight_2 : List UInt8 := [199, 0, 13, 44, 89, 75, 3, 181, 0, 93, 167, 0, 24, 45, 180, 0, 42, 43, 166, 0, 11, 45, 44]
abbrev dktJ28_rotateRight_2 : List UInt8 := dkwJ28_rotateRight_2 ++ dktJ28_rotateRight_3
def dkwJ28_rotateRight_1 : List UInt8 := [58, 4, 198, 0, 9, 25, 4, 43, 181, 0, 9, 44, 43, 180, 0, 9, 90, 181, 0, 9, 89, 78]
abbrev dktJ28_rotateRight_1 : List UInt8 := dkwJ28_rotateRight_1 ++ dktJ28_rotateRight_2
def dkwJ28_rotateRight_0 : List UInt8 := [43, 198, 0, 88, 43, 180, 0, 39, 89, 77, 198, 0, 79, 43, 44, 180, 0, 42, 90, 181, 0, 39, 89]
abbrev dktJ28_rotateRight_0 : List UInt8 := dkwJ28_rotateRight_0 ++ dktJ28_rotateRight_1
theorem dksJ28_rotateRight_0 : cJ28_rotateRight.data.toList.drop 0 = dktJ28_rotateRight_0 := by decide +kernel
theorem dksJ28_rotateRight_1 : cJ28_rotateRight.data.toList.drop 23 = dktJ28_rotateRight_1 := dk_seg dksJ28_rotateRight_0 23 rfl rfl
theorem dksJ28_rotateRight_2 : cJ28_rotateRight.data.toList.drop 45 = dktJ28_rotateRight_2 := dk_seg dksJ28_rotateRight_1 22 rfl rfl
theorem dksJ28_rotateRight_3 : cJ28_rotateRight.data.toList.drop 68 = dktJ28_rotateRight_3 := dk_seg dksJ28_rotateRight_2 23 rfl rfl
theorem dJ28_rotateRight_0 : decode cJ28_rotateRight 0 = .ok (.aload_n 1, 1) := dk_43 (dk_at dksJ28_rotateRight_0 0 rfl rfl)
theorem dJ28_rotateRight_1 : decode cJ28_rotateRight 1 = .ok (.ifnull 88, 3) := dk_198 0 88 (dk_at dksJ28_rotateRight_0 1 rfl rfl)
theorem dJ28_rotateRight_4 : decode cJ28_rotateRight 4 = .ok (.aload_n 1, 1) := dk_43 (dk_at dksJ28_rotateRight_0 4 rfl rfl)
theorem dJ28_rotateRight_5 : decode cJ28_rotateRight 5 = .ok (.getfield 39, 3) := dk_180 0 39 (dk_at dksJ28_rotateRight_0 5 rfl rfl)
theorem dJ28_rotateRight_8 : decode cJ28_rotateRight 8 = .ok (.dup, 1) := dk_89 (dk_at dksJ28_rotateRight_0 8 rfl rfl)
theorem dJ28_rotateRight_9 : decode cJ28_rotateRight 9 = .ok (.astore_n 2, 1) := dk_77 (dk_at dksJ28_rotateRight_0 9 rfl rfl)
theorem dJ28_rotateRight_10 : decode cJ28_rotateRight 10 = .ok (.ifnull 79, 3) := dk_198 0 79 (dk_at dksJ28_rotateRight_0 10 rfl rfl)
theorem dJ28_rotateRight_13 : decode cJ28_rotateRight 13 = .ok (.aload_n 1, 1) := dk_43 (dk_at dksJ28_rotateRight_0 13 rfl rfl)
theorem dJ28_rotateRight_14 : decode cJ28_rotateRight 14 = .ok (.aload_n 2, 1) := dk_44 (dk_at dksJ28_rotateRight_0 14 rfl rfl)
theorem dJ28_rotateRight_15 : decode cJ28_rotateRight 15 = .ok (.getfield 42, 3) := dk_180 0 42 (dk_at dksJ28_rotateRight_0 15 rfl rfl)
theorem dJ28_rotateRight_18 : decode cJ28_rotateRight 18 = .ok (.dup_x1, 1) := dk_90 (dk_at dksJ28_rotateRight_0 18 rfl rfl)
theorem dJ28_rotateRight_19 : decode cJ28_rotateRight 19 = .ok (.putfield 39, 3) := dk_181 0 39 (dk_at dksJ28_rotateRight_0 19 rfl rfl)
theorem dJ28_rotateRight_22 : decode cJ28_rotateRight 22 = .ok (.dup, 1) := dk_89 (dk_at dksJ28_rotateRight_0 22 rfl rfl)
theorem dJ28_rotateRight_23 : decode cJ28_rotateRight 23 = .ok (.astore 4, 2) := dk_58 4 (dk_at dksJ28_rotateRight_1 0 rfl rfl)
theorem dJ28_rotateRight_25 : decode cJ28_rotateRight 25 = .ok (.ifnull 9, 3) := dk_198 0 9 (dk_at dksJ28_rotateRight_1 2 rfl rfl)
theorem dJ28_rotateRight_28 : decode cJ28_rotateRight 28 = .ok (.aload 4, 2) := dk_25 4 (dk_at dksJ28_rotateRight_1 5 rfl rfl)
theorem dJ28_rotateRight_30 : decode cJ28_rotateRight 30 = .ok (.aload_n 1, 1) := dk_43 (dk_at dksJ28_rotateRight_1 7 rfl rfl)
theorem dJ28_rotateRight_31 : decode cJ28_rotateRight 31 = .ok (.putfield 9, 3) := dk_181 0 9 (dk_at dksJ28_rotateRight_1 8 rfl rfl)
theorem dJ28_rotateRight_34 : decode cJ28_rotateRight 34 = .ok (.aload_n 2, 1) := dk_44 (dk_at dksJ28_rotateRight_1 11 rfl rfl)
theorem dJ28_rotateRight_35 : decode cJ28_rotateRight 35 = .ok (.aload_n 1, 1) := dk_43 (dk_at dksJ28_rotateRight_1 12 rfl rfl)
theorem dJ28_rotateRight_36 : decode cJ28_rotateRight 36 = .ok (.getfield 9, 3) := dk_180 0 9 (dk_at dksJ28_rotateRight_1 13 rfl rfl)
theorem dJ28_rotateRight_39 : decode cJ28_rotateRight 39 = .ok (.dup_x1, 1) := dk_90 (dk_at dksJ28_rotateRight_1 16 rfl rfl)
theorem dJ28_rotateRight_40 : decode cJ28_rotateRight 40 = .ok (.putfield 9, 3) := dk_181 0 9 (dk_at dksJ28_rotateRight_1 17 rfl rfl)
theorem dJ28_rotateRight_43 : decode cJ28_rotateRight 43 = .ok (.dup, 1) := dk_89 (dk_at dksJ28_rotateRight_1 20 rfl rfl)
theorem dJ28_rotateRight_44 : decode cJ28_rotateRight 44 = .ok (.astore_n 3, 1) := dk_78 (dk_at dksJ28_rotateRight_1 21 rfl rfl)
theorem dJ28_rotateRight_45 : decode cJ28_rotateRight 45 = .ok (.ifnonnull 13, 3) := dk_199 0 13 (dk_at dksJ28_rotateRight_2 0 rfl rfl)
theorem dJ28_rotateRight_48 : decode cJ28_rotateRight 48 = .ok (.aload_n 2, 1) := dk_44 (dk_at dksJ28_rotateRight_2 3 rfl rfl)
theorem dJ28_rotateRight_49 : decode cJ28_rotateRight 49 = .ok (.dup, 1) := dk_89 (dk_at dksJ28_rotateRight_2 4 rfl rfl)
theorem dJ28_rotateRight_50 : decode cJ28_rotateRight 50 = .ok (.astore_n 0, 1) := dk_75 (dk_at dksJ28_rotateRight_2 5 rfl rfl)
theorem dJ28_rotateRight_51 : decode cJ28_rotateRight 51 = .ok (.iconst 0, 1) := dk_3 (dk_at dksJ28_rotateRight_2 6 rfl rfl)
theorem dJ28_rotateRight_52 : decode cJ28_rotateRight 52 = .ok (.putfield 93, 3) := dk_181 0 93 (dk_at dksJ28_rotateRight_2 7 rfl rfl)
theorem dJ28_rotateRight_55 : decode cJ28_rotateRight 55 = .ok (.goto 24, 3) := dk_167 0 24 (dk_at dksJ28_rotateRight_2 10 rfl rfl)
theorem dJ28_rotateRight_58 : decode cJ28_rotateRight 58 = .ok (.aload_n 3, 1) := dk_45 (dk_at dksJ28_rotateRight_2 13 rfl rfl)
theorem dJ28_rotateRight_59 : decode cJ28_rotateRight 59 = .ok (.getfield 42, 3) := dk_180 0 42 (dk_at dksJ28_rotateRight_2 14 rfl rfl)
theorem dJ28_rotateRight_62 : decode cJ28_rotateRight 62 = .ok (.aload_n 1, 1) := dk_43 (dk_at dksJ28_rotateRight_2 17 rfl rfl)
theorem dJ28_rotateRight_63 : decode cJ28_rotateRight 63 = .ok (.if_acmp .ne 11, 3) := dk_166 0 11 (dk_at dksJ28_rotateRight_2 18 rfl rfl)
theorem dJ28_rotateRight_66 : decode cJ28_rotateRight 66 = .ok (.aload_n 3, 1) := dk_45 (dk_at dksJ28_rotateRight_2 21 rfl rfl)
theorem dJ28_rotateRight_67 : decode cJ28_rotateRight 67 = .ok (.aload_n 2, 1) := dk_44 (dk_at dksJ28_rotateRight_2 22 rfl rfl)
theorem dJ28_rotateRight_68 : decode cJ28_rotateRight 68 = .ok (.putfield 42, 3) := dk_181 0 42 (dk_at dksJ28_rotateRight_3 0 rfl rfl)
theorem dJ28_rotateRight_71 : decode cJ28_rotateRight 71 = .ok (.goto 8, 3) := dk_167 0 8 (dk_at dksJ28_rotateRight_3 3 rfl rfl)
theorem dJ28_rotateRight_74 : decode cJ28_rotateRight 74 = .ok (.aload_n 3, 1) := dk_45 (dk_at dksJ28_rotateRight_3 6 rfl rfl)
theorem dJ28_rotateRight_75 : decode cJ28_rotateRight 75 = .ok (.aload_n 2, 1) := dk_44 (dk_at dksJ28_rotateRight_3 7 rfl rfl)
theorem dJ28_rotateRight_76 : decode cJ28_rotateRight 76 = .ok (.putfield 39, 3) := dk_181 0 39 (dk_at dksJ28_rotateRight_3 8 rfl rfl)
theorem dJ28_rotateRight_79 : decode cJ28_rotateRight 79 = .ok (.aload_n 2, 1) := dk_44 (dk_at dksJ28_rotateRight_3 11 rfl rfl)
theorem dJ28_rotateRight_80 : decode cJ28_rotateRight 80 = .ok (.aload_n 1, 1) := dk_43 (dk_at dksJ28_rotateRight_3 12 rfl rfl)
theorem dJ28_rotateRight_81 : decode cJ28_rotateRight 81 = .ok (.putfield 42, 3) := dk_181 0 42 (dk_at dksJ28_rotateRight_3 13 rfl rfl)
theorem dJ28_rotateRight_84 : decode cJ28_rotateRight 84 = .ok (.aload_n 1, 1) := dk_43 (dk_at dksJ28_rotateRight_3 16 rfl rfl)
theorem dJ28_rotateRight_85 : decode cJ28_rotateRight 85 = .ok (.aload_n 2, 1) := dk_44 (dk_at dksJ28_rotateRight_3 17 rfl rfl)
theorem dJ28_rotateRight_86 : decode cJ28_rotateRight 86 = .ok (.putfield 9, 3) := dk_181 0 9 (dk_at dksJ28_rotateRight_3 18 rfl rfl)
theorem dJ28_rotateRight_89 : decode cJ28_rotateRight 89 = .ok (.aload_n 0, 1) := dk_42 (dk_at dksJ28_rotateRight_3 21 rfl rfl)
theorem dJ28_rotateRight_90 : decode cJ28_rotateRight 90 = .ok (.areturn, 1) := dk_176 (dk_at dksJ28_rotateRight_3 22 rfl rfl)
abbrev cJ28_moveRootToFront : ByteArray := prog_86_method_3_code
def yJ28_moveRootToFront : MethodName := ⟨RJ28, "moveRootToFront", "([Ljava/util/HashMap$Node;Ljava/util/HashMap$TreeNode;)V"⟩
def dkwJ28_moveRootToFront_5 : List UInt8 := [89, 183, 0, 36, 191, 177]
abbrev dktJ28_moveRootToFront_5 : List UInt8 := dkwJ28_moveRootToFront_5 ++ []
def dkwJ28_moveRootToFront_4 : List UInt8 := [181, 0, 22, 43, 1, 181, 0, 19, 178, 0, 26, 154, 0, 18, 43, 184, 0, 30, 154, 0, 11, 187, 0, 34]
abbrev dktJ28_moveRootToFront_4 : List UInt8 := dkwJ28_moveRootToFront_4 ++ dktJ28_moveRootToFront_5
def dkwJ28_moveRootToFront_3 : List UInt8 := [198, 0, 10, 25, 6, 25, 5, 181, 0, 22, 25, 4, 198, 0, 9, 25, 4, 43, 181, 0, 19, 43, 25, 4]
abbrev dktJ28_moveRootToFront_3 : List UInt8 := dkwJ28_moveRootToFront_3 ++ dktJ28_moveRootToFront_4
def dkwJ28_moveRootToFront_2 : List UInt8 := [43, 180, 0, 22, 89, 58, 5, 198, 0, 13, 25, 5, 192, 0, 10, 25, 6, 181, 0, 19, 25, 6]
abbrev dktJ28_moveRootToFront_2 : List UInt8 := dkwJ28_moveRootToFront_2 ++ dktJ28_moveRootToFront_3
def dkwJ28_moveRootToFront_1 : List UInt8 := [42, 29, 50, 192, 0, 10, 58, 4, 43, 25, 4, 165, 0, 67, 42, 29, 43, 83, 43, 180, 0, 19, 58, 6]
abbrev dktJ28_moveRootToFront_1 : List UInt8 := dkwJ28_moveRootToFront_1 ++ dktJ28_moveRootToFront_2
def dkwJ28_moveRootToFront_0 : List UInt8 := [43, 198, 0, 122, 42, 198, 0, 118, 42, 190, 89, 61, 158, 0, 111, 28, 4, 100, 43, 180, 0, 15, 126, 62]
abbrev dktJ28_moveRootToFront_0 : List UInt8 := dkwJ28_moveRootToFront_0 ++ dktJ28_moveRootToFront_1
theorem dksJ28_moveRootToFront_0 : cJ28_moveRootToFront.data.toList.drop 0 = dktJ28_moveRootToFront_0 := by decide +kernel
theorem dksJ28_moveRootToFront_1 : cJ28_moveRootToFront.data.toList.drop 24 = dktJ28_moveRootToFront_1 := dk_seg dksJ28_moveRootToFront_0 24 rfl rfl
theorem dksJ28_moveRootToFront_2 : cJ28_moveRootToFront.data.toList.drop 48 = dktJ28_moveRootToFront_2 := dk_seg dksJ28_moveRootToFront_1 24 rfl rfl
theorem dksJ28_moveRootToFront_3 : cJ28_moveRootToFront.data.toList.drop 70 = dktJ28_moveRootToFront_3 := dk_seg dksJ28_moveRootToFront_2 22 rfl rfl
theorem dksJ28_moveRootToFront_4 : cJ28_moveRootToFront.data.toList.drop 94 = dktJ28_moveRootToFront_4 := dk_seg dksJ28_moveRootToFront_3 24 rfl rfl
theorem dksJ28_moveRootToFront_5 : cJ28_moveRootToFront.data.toList.drop 118 = dktJ28_moveRootToFront_5 := dk_seg dksJ28_moveRootToFront_4 24 rfl rfl
theorem dJ28_moveRootToFront_0 : decode cJ28_moveRootToFront 0 = .ok (.aload_n 1, 1) := dk_43 (dk_at dksJ28_moveRootToFront_0 0 rfl rfl)
theorem dJ28_moveRootToFront_1 : decode cJ28_moveRootToFront 1 = .ok (.ifnull 122, 3) := dk_198 0 122 (dk_at dksJ28_moveRootToFront_0 1 rfl rfl)
theorem dJ28_moveRootToFront_4 : decode cJ28_moveRootToFront 4 = .ok (.aload_n 0, 1) := dk_42 (dk_at dksJ28_moveRootToFront_0 4 rfl rfl)
theorem dJ28_moveRootToFront_5 : decode cJ28_moveRootToFront 5 = .ok (.ifnull 118, 3) := dk_198 0 118 (dk_at dksJ28_moveRootToFront_0 5 rfl rfl)
theorem dJ28_moveRootToFront_8 : decode cJ28_moveRootToFront 8 = .ok (.aload_n 0, 1) := dk_42 (dk_at dksJ28_moveRootToFront_0 8 rfl rfl)
theorem dJ28_moveRootToFront_9 : decode cJ28_moveRootToFront 9 = .ok (.arraylength, 1) := dk_190 (dk_at dksJ28_moveRootToFront_0 9 rfl rfl)
theorem dJ28_moveRootToFront_10 : decode cJ28_moveRootToFront 10 = .ok (.dup, 1) := dk_89 (dk_at dksJ28_moveRootToFront_0 10 rfl rfl)
theorem dJ28_moveRootToFront_11 : decode cJ28_moveRootToFront 11 = .ok (.istore_n 2, 1) := dk_61 (dk_at dksJ28_moveRootToFront_0 11 rfl rfl)
theorem dJ28_moveRootToFront_12 : decode cJ28_moveRootToFront 12 = .ok (.ifCond .le 111, 3) := dk_158 0 111 (dk_at dksJ28_moveRootToFront_0 12 rfl rfl)
theorem dJ28_moveRootToFront_15 : decode cJ28_moveRootToFront 15 = .ok (.iload_n 2, 1) := dk_28 (dk_at dksJ28_moveRootToFront_0 15 rfl rfl)
theorem dJ28_moveRootToFront_16 : decode cJ28_moveRootToFront 16 = .ok (.iconst 1, 1) := dk_4 (dk_at dksJ28_moveRootToFront_0 16 rfl rfl)
theorem dJ28_moveRootToFront_17 : decode cJ28_moveRootToFront 17 = .ok (.isub, 1) := dk_100 (dk_at dksJ28_moveRootToFront_0 17 rfl rfl)
theorem dJ28_moveRootToFront_18 : decode cJ28_moveRootToFront 18 = .ok (.aload_n 1, 1) := dk_43 (dk_at dksJ28_moveRootToFront_0 18 rfl rfl)
theorem dJ28_moveRootToFront_19 : decode cJ28_moveRootToFront 19 = .ok (.getfield 15, 3) := dk_180 0 15 (dk_at dksJ28_moveRootToFront_0 19 rfl rfl)
theorem dJ28_moveRootToFront_22 : decode cJ28_moveRootToFront 22 = .ok (.iand, 1) := dk_126 (dk_at dksJ28_moveRootToFront_0 22 rfl rfl)
theorem dJ28_moveRootToFront_23 : decode cJ28_moveRootToFront 23 = .ok (.istore_n 3, 1) := dk_62 (dk_at dksJ28_moveRootToFront_0 23 rfl rfl)
theorem dJ28_moveRootToFront_24 : decode cJ28_moveRootToFront 24 = .ok (.aload_n 0, 1) := dk_42 (dk_at dksJ28_moveRootToFront_1 0 rfl rfl)
theorem dJ28_moveRootToFront_25 : decode cJ28_moveRootToFront 25 = .ok (.iload_n 3, 1) := dk_29 (dk_at dksJ28_moveRootToFront_1 1 rfl rfl)
theorem dJ28_moveRootToFront_26 : decode cJ28_moveRootToFront 26 = .ok (.aaload, 1) := dk_50 (dk_at dksJ28_moveRootToFront_1 2 rfl rfl)
theorem dJ28_moveRootToFront_27 : decode cJ28_moveRootToFront 27 = .ok (.checkcast 10, 3) := dk_192 0 10 (dk_at dksJ28_moveRootToFront_1 3 rfl rfl)
theorem dJ28_moveRootToFront_30 : decode cJ28_moveRootToFront 30 = .ok (.astore 4, 2) := dk_58 4 (dk_at dksJ28_moveRootToFront_1 6 rfl rfl)
theorem dJ28_moveRootToFront_32 : decode cJ28_moveRootToFront 32 = .ok (.aload_n 1, 1) := dk_43 (dk_at dksJ28_moveRootToFront_1 8 rfl rfl)
theorem dJ28_moveRootToFront_33 : decode cJ28_moveRootToFront 33 = .ok (.aload 4, 2) := dk_25 4 (dk_at dksJ28_moveRootToFront_1 9 rfl rfl)
theorem dJ28_moveRootToFront_35 : decode cJ28_moveRootToFront 35 = .ok (.if_acmp .eq 67, 3) := dk_165 0 67 (dk_at dksJ28_moveRootToFront_1 11 rfl rfl)
theorem dJ28_moveRootToFront_38 : decode cJ28_moveRootToFront 38 = .ok (.aload_n 0, 1) := dk_42 (dk_at dksJ28_moveRootToFront_1 14 rfl rfl)
theorem dJ28_moveRootToFront_39 : decode cJ28_moveRootToFront 39 = .ok (.iload_n 3, 1) := dk_29 (dk_at dksJ28_moveRootToFront_1 15 rfl rfl)
theorem dJ28_moveRootToFront_40 : decode cJ28_moveRootToFront 40 = .ok (.aload_n 1, 1) := dk_43 (dk_at dksJ28_moveRootToFront_1 16 rfl rfl)
theorem dJ28_moveRootToFront_41 : decode cJ28_moveRootToFront 41 = .ok (.aastore, 1) := dk_83 (dk_at dksJ28_moveRootToFront_1 17 rfl rfl)
theorem dJ28_moveRootToFront_42 : decode cJ28_moveRootToFront 42 = .ok (.aload_n 1, 1) := dk_43 (dk_at dksJ28_moveRootToFront_1 18 rfl rfl)
theorem dJ28_moveRootToFront_43 : decode cJ28_moveRootToFront 43 = .ok (.getfield 19, 3) := dk_180 0 19 (dk_at dksJ28_moveRootToFront_1 19 rfl rfl)
theorem dJ28_moveRootToFront_46 : decode cJ28_moveRootToFront 46 = .ok (.astore 6, 2) := dk_58 6 (dk_at dksJ28_moveRootToFront_1 22 rfl rfl)
theorem dJ28_moveRootToFront_48 : decode cJ28_moveRootToFront 48 = .ok (.aload_n 1, 1) := dk_43 (dk_at dksJ28_moveRootToFront_2 0 rfl rfl)
theorem dJ28_moveRootToFront_49 : decode cJ28_moveRootToFront 49 = .ok (.getfield 22, 3) := dk_180 0 22 (dk_at dksJ28_moveRootToFront_2 1 rfl rfl)
theorem dJ28_moveRootToFront_52 : decode cJ28_moveRootToFront 52 = .ok (.dup, 1) := dk_89 (dk_at dksJ28_moveRootToFront_2 4 rfl rfl)
theorem dJ28_moveRootToFront_53 : decode cJ28_moveRootToFront 53 = .ok (.astore 5, 2) := dk_58 5 (dk_at dksJ28_moveRootToFront_2 5 rfl rfl)
theorem dJ28_moveRootToFront_55 : decode cJ28_moveRootToFront 55 = .ok (.ifnull 13, 3) := dk_198 0 13 (dk_at dksJ28_moveRootToFront_2 7 rfl rfl)
theorem dJ28_moveRootToFront_58 : decode cJ28_moveRootToFront 58 = .ok (.aload 5, 2) := dk_25 5 (dk_at dksJ28_moveRootToFront_2 10 rfl rfl)
theorem dJ28_moveRootToFront_60 : decode cJ28_moveRootToFront 60 = .ok (.checkcast 10, 3) := dk_192 0 10 (dk_at dksJ28_moveRootToFront_2 12 rfl rfl)
theorem dJ28_moveRootToFront_63 : decode cJ28_moveRootToFront 63 = .ok (.aload 6, 2) := dk_25 6 (dk_at dksJ28_moveRootToFront_2 15 rfl rfl)
theorem dJ28_moveRootToFront_65 : decode cJ28_moveRootToFront 65 = .ok (.putfield 19, 3) := dk_181 0 19 (dk_at dksJ28_moveRootToFront_2 17 rfl rfl)
theorem dJ28_moveRootToFront_68 : decode cJ28_moveRootToFront 68 = .ok (.aload 6, 2) := dk_25 6 (dk_at dksJ28_moveRootToFront_2 20 rfl rfl)
theorem dJ28_moveRootToFront_70 : decode cJ28_moveRootToFront 70 = .ok (.ifnull 10, 3) := dk_198 0 10 (dk_at dksJ28_moveRootToFront_3 0 rfl rfl)
theorem dJ28_moveRootToFront_73 : decode cJ28_moveRootToFront 73 = .ok (.aload 6, 2) := dk_25 6 (dk_at dksJ28_moveRootToFront_3 3 rfl rfl)
theorem dJ28_moveRootToFront_75 : decode cJ28_moveRootToFront 75 = .ok (.aload 5, 2) := dk_25 5 (dk_at dksJ28_moveRootToFront_3 5 rfl rfl)
theorem dJ28_moveRootToFront_77 : decode cJ28_moveRootToFront 77 = .ok (.putfield 22, 3) := dk_181 0 22 (dk_at dksJ28_moveRootToFront_3 7 rfl rfl)
theorem dJ28_moveRootToFront_80 : decode cJ28_moveRootToFront 80 = .ok (.aload 4, 2) := dk_25 4 (dk_at dksJ28_moveRootToFront_3 10 rfl rfl)
theorem dJ28_moveRootToFront_82 : decode cJ28_moveRootToFront 82 = .ok (.ifnull 9, 3) := dk_198 0 9 (dk_at dksJ28_moveRootToFront_3 12 rfl rfl)
theorem dJ28_moveRootToFront_85 : decode cJ28_moveRootToFront 85 = .ok (.aload 4, 2) := dk_25 4 (dk_at dksJ28_moveRootToFront_3 15 rfl rfl)
theorem dJ28_moveRootToFront_87 : decode cJ28_moveRootToFront 87 = .ok (.aload_n 1, 1) := dk_43 (dk_at dksJ28_moveRootToFront_3 17 rfl rfl)
theorem dJ28_moveRootToFront_88 : decode cJ28_moveRootToFront 88 = .ok (.putfield 19, 3) := dk_181 0 19 (dk_at dksJ28_moveRootToFront_3 18 rfl rfl)
theorem dJ28_moveRootToFront_91 : decode cJ28_moveRootToFront 91 = .ok (.aload_n 1, 1) := dk_43 (dk_at dksJ28_moveRootToFront_3 21 rfl rfl)
theorem dJ28_moveRootToFront_92 : decode cJ28_moveRootToFront 92 = .ok (.aload 4, 2) := dk_25 4 (dk_at dksJ28_moveRootToFront_3 22 rfl rfl)
theorem dJ28_moveRootToFront_94 : decode cJ28_moveRootToFront 94 = .ok (.putfield 22, 3) := dk_181 0 22 (dk_at dksJ28_moveRootToFront_4 0 rfl rfl)
theorem dJ28_moveRootToFront_97 : decode cJ28_moveRootToFront 97 = .ok (.aload_n 1, 1) := dk_43 (dk_at dksJ28_moveRootToFront_4 3 rfl rfl)
theorem dJ28_moveRootToFront_98 : decode cJ28_moveRootToFront 98 = .ok (.aconst_null, 1) := dk_1 (dk_at dksJ28_moveRootToFront_4 4 rfl rfl)
theorem dJ28_moveRootToFront_99 : decode cJ28_moveRootToFront 99 = .ok (.putfield 19, 3) := dk_181 0 19 (dk_at dksJ28_moveRootToFront_4 5 rfl rfl)
theorem dJ28_moveRootToFront_102 : decode cJ28_moveRootToFront 102 = .ok (.getstatic 26, 3) := dk_178 0 26 (dk_at dksJ28_moveRootToFront_4 8 rfl rfl)
theorem dJ28_moveRootToFront_105 : decode cJ28_moveRootToFront 105 = .ok (.ifCond .ne 18, 3) := dk_154 0 18 (dk_at dksJ28_moveRootToFront_4 11 rfl rfl)
theorem dJ28_moveRootToFront_108 : decode cJ28_moveRootToFront 108 = .ok (.aload_n 1, 1) := dk_43 (dk_at dksJ28_moveRootToFront_4 14 rfl rfl)
theorem dJ28_moveRootToFront_109 : decode cJ28_moveRootToFront 109 = .ok (.invokestatic 30, 3) := dk_184 0 30 (dk_at dksJ28_moveRootToFront_4 15 rfl rfl)
theorem dJ28_moveRootToFront_112 : decode cJ28_moveRootToFront 112 = .ok (.ifCond .ne 11, 3) := dk_154 0 11 (dk_at dksJ28_moveRootToFront_4 18 rfl rfl)
theorem dJ28_moveRootToFront_115 : decode cJ28_moveRootToFront 115 = .ok (.new 34, 3) := dk_187 0 34 (dk_at dksJ28_moveRootToFront_4 21 rfl rfl)
theorem dJ28_moveRootToFront_118 : decode cJ28_moveRootToFront 118 = .ok (.dup, 1) := dk_89 (dk_at dksJ28_moveRootToFront_5 0 rfl rfl)
theorem dJ28_moveRootToFront_119 : decode cJ28_moveRootToFront 119 = .ok (.invokespecial 36, 3) := dk_183 0 36 (dk_at dksJ28_moveRootToFront_5 1 rfl rfl)
theorem dJ28_moveRootToFront_122 : decode cJ28_moveRootToFront 122 = .ok (.athrow, 1) := dk_191 (dk_at dksJ28_moveRootToFront_5 4 rfl rfl)
theorem dJ28_moveRootToFront_123 : decode cJ28_moveRootToFront 123 = .ok (.return_, 1) := dk_177 (dk_at dksJ28_moveRootToFront_5 5 rfl rfl)
abbrev cJ28_putTreeVal : ByteArray := prog_86_method_9_code
def yJ28_putTreeVal : MethodName := ⟨RJ28, "putTreeVal", "(Ljava/util/HashMap;[Ljava/util/HashMap$Node;ILjava/lang/Object;Ljava/lang/Object;)Ljava/util/HashMap$TreeNode;"⟩
def dkwJ28_putTreeVal_13 : List UInt8 := [184, 0, 100, 184, 0, 104, 1, 176, 167, 254, 228]
abbrev dktJ28_putTreeVal_13 : List UInt8 := dkwJ28_putTreeVal_13 ++ []
def dkwJ28_putTreeVal_12 : List UInt8 := [181, 0, 9, 25, 14, 198, 0, 13, 25, 14, 192, 0, 10, 25, 15, 181, 0, 19, 44, 25, 8, 25, 15]
abbrev dktJ28_putTreeVal_12 : List UInt8 := dkwJ28_putTreeVal_12 ++ dktJ28_putTreeVal_13
def dkwJ28_putTreeVal_11 : List UInt8 := [25, 15, 181, 0, 42, 25, 13, 25, 15, 181, 0, 22, 25, 15, 25, 15, 25, 13, 90, 181, 0, 19]
abbrev dktJ28_putTreeVal_11 : List UInt8 := dkwJ28_putTreeVal_11 ++ dktJ28_putTreeVal_12
def dkwJ28_putTreeVal_10 : List UInt8 := [25, 14, 182, 0, 115, 58, 15, 21, 10, 157, 0, 13, 25, 13, 25, 15, 181, 0, 39, 167, 0, 10, 25, 13]
abbrev dktJ28_putTreeVal_10 : List UInt8 := dkwJ28_putTreeVal_10 ++ dktJ28_putTreeVal_11
def dkwJ28_putTreeVal_9 : List UInt8 := [25, 9, 180, 0, 42, 89, 58, 9, 199, 0, 93, 25, 13, 180, 0, 22, 58, 14, 43, 29, 25, 4, 25, 5]
abbrev dktJ28_putTreeVal_9 : List UInt8 := dkwJ28_putTreeVal_9 ++ dktJ28_putTreeVal_10
def dkwJ28_putTreeVal_8 : List UInt8 := [25, 12, 184, 0, 96, 54, 10, 25, 9, 58, 13, 21, 10, 157, 0, 11, 25, 9, 180, 0, 39, 167, 0, 8]
abbrev dktJ28_putTreeVal_8 : List UInt8 := dkwJ28_putTreeVal_8 ++ dktJ28_putTreeVal_9
def dkwJ28_putTreeVal_7 : List UInt8 := [198, 0, 22, 25, 14, 29, 25, 4, 25, 6, 182, 0, 63, 89, 58, 13, 198, 0, 6, 25, 13, 176, 25, 4]
abbrev dktJ28_putTreeVal_7 : List UInt8 := dkwJ28_putTreeVal_7 ++ dktJ28_putTreeVal_8
def dkwJ28_putTreeVal_6 : List UInt8 := [29, 25, 4, 25, 6, 182, 0, 63, 89, 58, 13, 199, 0, 30, 25, 9, 180, 0, 42, 89, 58, 14]
abbrev dktJ28_putTreeVal_6 : List UInt8 := dkwJ28_putTreeVal_6 ++ dktJ28_putTreeVal_7
def dkwJ28_putTreeVal_5 : List UInt8 := [154, 0, 77, 21, 7, 154, 0, 63, 4, 54, 7, 25, 9, 180, 0, 39, 89, 58, 14, 198, 0, 19, 25, 14]
abbrev dktJ28_putTreeVal_5 : List UInt8 := dkwJ28_putTreeVal_5 ++ dktJ28_putTreeVal_6
def dkwJ28_putTreeVal_4 : List UInt8 := [25, 4, 184, 0, 55, 89, 58, 6, 198, 0, 18, 25, 6, 25, 4, 25, 12, 184, 0, 59, 89, 54, 10]
abbrev dktJ28_putTreeVal_4 : List UInt8 := dkwJ28_putTreeVal_4 ++ dktJ28_putTreeVal_5
def dkwJ28_putTreeVal_3 : List UInt8 := [25, 4, 198, 0, 16, 25, 4, 25, 12, 182, 0, 49, 153, 0, 6, 25, 9, 176, 25, 6, 199, 0, 14]
abbrev dktJ28_putTreeVal_3 : List UInt8 := dkwJ28_putTreeVal_3 ++ dktJ28_putTreeVal_4
def dkwJ28_putTreeVal_2 : List UInt8 := [29, 162, 0, 9, 4, 54, 10, 167, 0, 139, 25, 9, 180, 0, 45, 89, 58, 12, 25, 4, 165, 0, 18]
abbrev dktJ28_putTreeVal_2 : List UInt8 := dkwJ28_putTreeVal_2 ++ dktJ28_putTreeVal_3
def dkwJ28_putTreeVal_1 : List UInt8 := [25, 8, 58, 9, 25, 9, 180, 0, 15, 89, 54, 11, 29, 164, 0, 9, 2, 54, 10, 167, 0, 151, 21, 11]
abbrev dktJ28_putTreeVal_1 : List UInt8 := dkwJ28_putTreeVal_1 ++ dktJ28_putTreeVal_2
def dkwJ28_putTreeVal_0 : List UInt8 := [1, 58, 6, 3, 54, 7, 42, 180, 0, 9, 198, 0, 10, 42, 182, 0, 67, 167, 0, 4, 42, 58, 8]
abbrev dktJ28_putTreeVal_0 : List UInt8 := dkwJ28_putTreeVal_0 ++ dktJ28_putTreeVal_1
theorem dksJ28_putTreeVal_0 : cJ28_putTreeVal.data.toList.drop 0 = dktJ28_putTreeVal_0 := by decide +kernel
theorem dksJ28_putTreeVal_1 : cJ28_putTreeVal.data.toList.drop 23 = dktJ28_putTreeVal_1 := dk_seg dksJ28_putTreeVal_0 23 rfl rfl
theorem dksJ28_putTreeVal_2 : cJ28_putTreeVal.data.toList.drop 47 = dktJ28_putTreeVal_2 := dk_seg dksJ28_putTreeVal_1 24 rfl rfl
theorem dksJ28_putTreeVal_3 : cJ28_putTreeVal.data.toList.drop 70 = dktJ28_putTreeVal_3 := dk_seg dksJ28_putTreeVal_2 23 rfl rfl
theorem dksJ28_putTreeVal_4 : cJ28_putTreeVal.data.toList.drop 93 = dktJ28_putTreeVal_4 := dk_seg dksJ28_putTreeVal_3 23 rfl rfl
theorem dksJ28_putTreeVal_5 : cJ28_putTreeVal.data.toList.drop 116 = dktJ28_putTreeVal_5 := dk_seg dksJ28_putTreeVal_4 23 rfl rfl
theorem dksJ28_putTreeVal_6 : cJ28_putTreeVal.data.toList.drop 140 = dktJ28_putTreeVal_6 := dk_seg dksJ28_putTreeVal_5 24 rfl rfl
theorem dksJ28_putTreeVal_7 : cJ28_putTreeVal.data.toList.drop 162 = dktJ28_putTreeVal_7 := dk_seg dksJ28_putTreeVal_6 22 rfl rfl
theorem dksJ28_putTreeVal_8 : cJ28_putTreeVal.data.toList.drop 186 = dktJ28_putTreeVal_8 := dk_seg dksJ28_putTreeVal_7 24 rfl rfl
theorem dksJ28_putTreeVal_9 : cJ28_putTreeVal.data.toList.drop 210 = dktJ28_putTreeVal_9 := dk_seg dksJ28_putTreeVal_8 24 rfl rfl
theorem dksJ28_putTreeVal_10 : cJ28_putTreeVal.data.toList.drop 234 = dktJ28_putTreeVal_10 := dk_seg dksJ28_putTreeVal_9 24 rfl rfl
theorem dksJ28_putTreeVal_11 : cJ28_putTreeVal.data.toList.drop 258 = dktJ28_putTreeVal_11 := dk_seg dksJ28_putTreeVal_10 24 rfl rfl
theorem dksJ28_putTreeVal_12 : cJ28_putTreeVal.data.toList.drop 280 = dktJ28_putTreeVal_12 := dk_seg dksJ28_putTreeVal_11 22 rfl rfl
theorem dksJ28_putTreeVal_13 : cJ28_putTreeVal.data.toList.drop 303 = dktJ28_putTreeVal_13 := dk_seg dksJ28_putTreeVal_12 23 rfl rfl
theorem dJ28_putTreeVal_0 : decode cJ28_putTreeVal 0 = .ok (.aconst_null, 1) := dk_1 (dk_at dksJ28_putTreeVal_0 0 rfl rfl)
theorem dJ28_putTreeVal_1 : decode cJ28_putTreeVal 1 = .ok (.astore 6, 2) := dk_58 6 (dk_at dksJ28_putTreeVal_0 1 rfl rfl)
theorem dJ28_putTreeVal_3 : decode cJ28_putTreeVal 3 = .ok (.iconst 0, 1) := dk_3 (dk_at dksJ28_putTreeVal_0 3 rfl rfl)
theorem dJ28_putTreeVal_4 : decode cJ28_putTreeVal 4 = .ok (.istore 7, 2) := dk_54 7 (dk_at dksJ28_putTreeVal_0 4 rfl rfl)
theorem dJ28_putTreeVal_6 : decode cJ28_putTreeVal 6 = .ok (.aload_n 0, 1) := dk_42 (dk_at dksJ28_putTreeVal_0 6 rfl rfl)
theorem dJ28_putTreeVal_7 : decode cJ28_putTreeVal 7 = .ok (.getfield 9, 3) := dk_180 0 9 (dk_at dksJ28_putTreeVal_0 7 rfl rfl)
theorem dJ28_putTreeVal_10 : decode cJ28_putTreeVal 10 = .ok (.ifnull 10, 3) := dk_198 0 10 (dk_at dksJ28_putTreeVal_0 10 rfl rfl)
theorem dJ28_putTreeVal_13 : decode cJ28_putTreeVal 13 = .ok (.aload_n 0, 1) := dk_42 (dk_at dksJ28_putTreeVal_0 13 rfl rfl)
theorem dJ28_putTreeVal_14 : decode cJ28_putTreeVal 14 = .ok (.invokevirtual 67, 3) := dk_182 0 67 (dk_at dksJ28_putTreeVal_0 14 rfl rfl)
theorem dJ28_putTreeVal_17 : decode cJ28_putTreeVal 17 = .ok (.goto 4, 3) := dk_167 0 4 (dk_at dksJ28_putTreeVal_0 17 rfl rfl)
theorem dJ28_putTreeVal_20 : decode cJ28_putTreeVal 20 = .ok (.aload_n 0, 1) := dk_42 (dk_at dksJ28_putTreeVal_0 20 rfl rfl)
theorem dJ28_putTreeVal_21 : decode cJ28_putTreeVal 21 = .ok (.astore 8, 2) := dk_58 8 (dk_at dksJ28_putTreeVal_0 21 rfl rfl)
theorem dJ28_putTreeVal_23 : decode cJ28_putTreeVal 23 = .ok (.aload 8, 2) := dk_25 8 (dk_at dksJ28_putTreeVal_1 0 rfl rfl)
theorem dJ28_putTreeVal_25 : decode cJ28_putTreeVal 25 = .ok (.astore 9, 2) := dk_58 9 (dk_at dksJ28_putTreeVal_1 2 rfl rfl)
theorem dJ28_putTreeVal_27 : decode cJ28_putTreeVal 27 = .ok (.aload 9, 2) := dk_25 9 (dk_at dksJ28_putTreeVal_1 4 rfl rfl)
theorem dJ28_putTreeVal_29 : decode cJ28_putTreeVal 29 = .ok (.getfield 15, 3) := dk_180 0 15 (dk_at dksJ28_putTreeVal_1 6 rfl rfl)
theorem dJ28_putTreeVal_32 : decode cJ28_putTreeVal 32 = .ok (.dup, 1) := dk_89 (dk_at dksJ28_putTreeVal_1 9 rfl rfl)
theorem dJ28_putTreeVal_33 : decode cJ28_putTreeVal 33 = .ok (.istore 11, 2) := dk_54 11 (dk_at dksJ28_putTreeVal_1 10 rfl rfl)
theorem dJ28_putTreeVal_35 : decode cJ28_putTreeVal 35 = .ok (.iload_n 3, 1) := dk_29 (dk_at dksJ28_putTreeVal_1 12 rfl rfl)
theorem dJ28_putTreeVal_36 : decode cJ28_putTreeVal 36 = .ok (.if_icmp .le 9, 3) := dk_164 0 9 (dk_at dksJ28_putTreeVal_1 13 rfl rfl)
theorem dJ28_putTreeVal_39 : decode cJ28_putTreeVal 39 = .ok (.iconst (-1), 1) := dk_2 (dk_at dksJ28_putTreeVal_1 16 rfl rfl)
theorem dJ28_putTreeVal_40 : decode cJ28_putTreeVal 40 = .ok (.istore 10, 2) := dk_54 10 (dk_at dksJ28_putTreeVal_1 17 rfl rfl)
theorem dJ28_putTreeVal_42 : decode cJ28_putTreeVal 42 = .ok (.goto 151, 3) := dk_167 0 151 (dk_at dksJ28_putTreeVal_1 19 rfl rfl)
theorem dJ28_putTreeVal_45 : decode cJ28_putTreeVal 45 = .ok (.iload 11, 2) := dk_21 11 (dk_at dksJ28_putTreeVal_1 22 rfl rfl)
theorem dJ28_putTreeVal_47 : decode cJ28_putTreeVal 47 = .ok (.iload_n 3, 1) := dk_29 (dk_at dksJ28_putTreeVal_2 0 rfl rfl)
theorem dJ28_putTreeVal_48 : decode cJ28_putTreeVal 48 = .ok (.if_icmp .ge 9, 3) := dk_162 0 9 (dk_at dksJ28_putTreeVal_2 1 rfl rfl)
theorem dJ28_putTreeVal_51 : decode cJ28_putTreeVal 51 = .ok (.iconst 1, 1) := dk_4 (dk_at dksJ28_putTreeVal_2 4 rfl rfl)
theorem dJ28_putTreeVal_52 : decode cJ28_putTreeVal 52 = .ok (.istore 10, 2) := dk_54 10 (dk_at dksJ28_putTreeVal_2 5 rfl rfl)
theorem dJ28_putTreeVal_54 : decode cJ28_putTreeVal 54 = .ok (.goto 139, 3) := dk_167 0 139 (dk_at dksJ28_putTreeVal_2 7 rfl rfl)
theorem dJ28_putTreeVal_57 : decode cJ28_putTreeVal 57 = .ok (.aload 9, 2) := dk_25 9 (dk_at dksJ28_putTreeVal_2 10 rfl rfl)
theorem dJ28_putTreeVal_59 : decode cJ28_putTreeVal 59 = .ok (.getfield 45, 3) := dk_180 0 45 (dk_at dksJ28_putTreeVal_2 12 rfl rfl)
theorem dJ28_putTreeVal_62 : decode cJ28_putTreeVal 62 = .ok (.dup, 1) := dk_89 (dk_at dksJ28_putTreeVal_2 15 rfl rfl)
theorem dJ28_putTreeVal_63 : decode cJ28_putTreeVal 63 = .ok (.astore 12, 2) := dk_58 12 (dk_at dksJ28_putTreeVal_2 16 rfl rfl)
theorem dJ28_putTreeVal_65 : decode cJ28_putTreeVal 65 = .ok (.aload 4, 2) := dk_25 4 (dk_at dksJ28_putTreeVal_2 18 rfl rfl)
theorem dJ28_putTreeVal_67 : decode cJ28_putTreeVal 67 = .ok (.if_acmp .eq 18, 3) := dk_165 0 18 (dk_at dksJ28_putTreeVal_2 20 rfl rfl)
theorem dJ28_putTreeVal_70 : decode cJ28_putTreeVal 70 = .ok (.aload 4, 2) := dk_25 4 (dk_at dksJ28_putTreeVal_3 0 rfl rfl)
theorem dJ28_putTreeVal_72 : decode cJ28_putTreeVal 72 = .ok (.ifnull 16, 3) := dk_198 0 16 (dk_at dksJ28_putTreeVal_3 2 rfl rfl)
theorem dJ28_putTreeVal_75 : decode cJ28_putTreeVal 75 = .ok (.aload 4, 2) := dk_25 4 (dk_at dksJ28_putTreeVal_3 5 rfl rfl)
theorem dJ28_putTreeVal_77 : decode cJ28_putTreeVal 77 = .ok (.aload 12, 2) := dk_25 12 (dk_at dksJ28_putTreeVal_3 7 rfl rfl)
theorem dJ28_putTreeVal_79 : decode cJ28_putTreeVal 79 = .ok (.invokevirtual 49, 3) := dk_182 0 49 (dk_at dksJ28_putTreeVal_3 9 rfl rfl)
theorem dJ28_putTreeVal_82 : decode cJ28_putTreeVal 82 = .ok (.ifCond .eq 6, 3) := dk_153 0 6 (dk_at dksJ28_putTreeVal_3 12 rfl rfl)
theorem dJ28_putTreeVal_85 : decode cJ28_putTreeVal 85 = .ok (.aload 9, 2) := dk_25 9 (dk_at dksJ28_putTreeVal_3 15 rfl rfl)
theorem dJ28_putTreeVal_87 : decode cJ28_putTreeVal 87 = .ok (.areturn, 1) := dk_176 (dk_at dksJ28_putTreeVal_3 17 rfl rfl)
theorem dJ28_putTreeVal_88 : decode cJ28_putTreeVal 88 = .ok (.aload 6, 2) := dk_25 6 (dk_at dksJ28_putTreeVal_3 18 rfl rfl)
theorem dJ28_putTreeVal_90 : decode cJ28_putTreeVal 90 = .ok (.ifnonnull 14, 3) := dk_199 0 14 (dk_at dksJ28_putTreeVal_3 20 rfl rfl)
theorem dJ28_putTreeVal_93 : decode cJ28_putTreeVal 93 = .ok (.aload 4, 2) := dk_25 4 (dk_at dksJ28_putTreeVal_4 0 rfl rfl)
theorem dJ28_putTreeVal_95 : decode cJ28_putTreeVal 95 = .ok (.invokestatic 55, 3) := dk_184 0 55 (dk_at dksJ28_putTreeVal_4 2 rfl rfl)
theorem dJ28_putTreeVal_98 : decode cJ28_putTreeVal 98 = .ok (.dup, 1) := dk_89 (dk_at dksJ28_putTreeVal_4 5 rfl rfl)
theorem dJ28_putTreeVal_99 : decode cJ28_putTreeVal 99 = .ok (.astore 6, 2) := dk_58 6 (dk_at dksJ28_putTreeVal_4 6 rfl rfl)
theorem dJ28_putTreeVal_101 : decode cJ28_putTreeVal 101 = .ok (.ifnull 18, 3) := dk_198 0 18 (dk_at dksJ28_putTreeVal_4 8 rfl rfl)
theorem dJ28_putTreeVal_104 : decode cJ28_putTreeVal 104 = .ok (.aload 6, 2) := dk_25 6 (dk_at dksJ28_putTreeVal_4 11 rfl rfl)
theorem dJ28_putTreeVal_106 : decode cJ28_putTreeVal 106 = .ok (.aload 4, 2) := dk_25 4 (dk_at dksJ28_putTreeVal_4 13 rfl rfl)
theorem dJ28_putTreeVal_108 : decode cJ28_putTreeVal 108 = .ok (.aload 12, 2) := dk_25 12 (dk_at dksJ28_putTreeVal_4 15 rfl rfl)
theorem dJ28_putTreeVal_110 : decode cJ28_putTreeVal 110 = .ok (.invokestatic 59, 3) := dk_184 0 59 (dk_at dksJ28_putTreeVal_4 17 rfl rfl)
theorem dJ28_putTreeVal_113 : decode cJ28_putTreeVal 113 = .ok (.dup, 1) := dk_89 (dk_at dksJ28_putTreeVal_4 20 rfl rfl)
theorem dJ28_putTreeVal_114 : decode cJ28_putTreeVal 114 = .ok (.istore 10, 2) := dk_54 10 (dk_at dksJ28_putTreeVal_4 21 rfl rfl)
theorem dJ28_putTreeVal_116 : decode cJ28_putTreeVal 116 = .ok (.ifCond .ne 77, 3) := dk_154 0 77 (dk_at dksJ28_putTreeVal_5 0 rfl rfl)
theorem dJ28_putTreeVal_119 : decode cJ28_putTreeVal 119 = .ok (.iload 7, 2) := dk_21 7 (dk_at dksJ28_putTreeVal_5 3 rfl rfl)
theorem dJ28_putTreeVal_121 : decode cJ28_putTreeVal 121 = .ok (.ifCond .ne 63, 3) := dk_154 0 63 (dk_at dksJ28_putTreeVal_5 5 rfl rfl)
theorem dJ28_putTreeVal_124 : decode cJ28_putTreeVal 124 = .ok (.iconst 1, 1) := dk_4 (dk_at dksJ28_putTreeVal_5 8 rfl rfl)
theorem dJ28_putTreeVal_125 : decode cJ28_putTreeVal 125 = .ok (.istore 7, 2) := dk_54 7 (dk_at dksJ28_putTreeVal_5 9 rfl rfl)
theorem dJ28_putTreeVal_127 : decode cJ28_putTreeVal 127 = .ok (.aload 9, 2) := dk_25 9 (dk_at dksJ28_putTreeVal_5 11 rfl rfl)
theorem dJ28_putTreeVal_129 : decode cJ28_putTreeVal 129 = .ok (.getfield 39, 3) := dk_180 0 39 (dk_at dksJ28_putTreeVal_5 13 rfl rfl)
theorem dJ28_putTreeVal_132 : decode cJ28_putTreeVal 132 = .ok (.dup, 1) := dk_89 (dk_at dksJ28_putTreeVal_5 16 rfl rfl)
theorem dJ28_putTreeVal_133 : decode cJ28_putTreeVal 133 = .ok (.astore 14, 2) := dk_58 14 (dk_at dksJ28_putTreeVal_5 17 rfl rfl)
theorem dJ28_putTreeVal_135 : decode cJ28_putTreeVal 135 = .ok (.ifnull 19, 3) := dk_198 0 19 (dk_at dksJ28_putTreeVal_5 19 rfl rfl)
theorem dJ28_putTreeVal_138 : decode cJ28_putTreeVal 138 = .ok (.aload 14, 2) := dk_25 14 (dk_at dksJ28_putTreeVal_5 22 rfl rfl)
theorem dJ28_putTreeVal_140 : decode cJ28_putTreeVal 140 = .ok (.iload_n 3, 1) := dk_29 (dk_at dksJ28_putTreeVal_6 0 rfl rfl)
theorem dJ28_putTreeVal_141 : decode cJ28_putTreeVal 141 = .ok (.aload 4, 2) := dk_25 4 (dk_at dksJ28_putTreeVal_6 1 rfl rfl)
theorem dJ28_putTreeVal_143 : decode cJ28_putTreeVal 143 = .ok (.aload 6, 2) := dk_25 6 (dk_at dksJ28_putTreeVal_6 3 rfl rfl)
theorem dJ28_putTreeVal_145 : decode cJ28_putTreeVal 145 = .ok (.invokevirtual 63, 3) := dk_182 0 63 (dk_at dksJ28_putTreeVal_6 5 rfl rfl)
theorem dJ28_putTreeVal_148 : decode cJ28_putTreeVal 148 = .ok (.dup, 1) := dk_89 (dk_at dksJ28_putTreeVal_6 8 rfl rfl)
theorem dJ28_putTreeVal_149 : decode cJ28_putTreeVal 149 = .ok (.astore 13, 2) := dk_58 13 (dk_at dksJ28_putTreeVal_6 9 rfl rfl)
theorem dJ28_putTreeVal_151 : decode cJ28_putTreeVal 151 = .ok (.ifnonnull 30, 3) := dk_199 0 30 (dk_at dksJ28_putTreeVal_6 11 rfl rfl)
theorem dJ28_putTreeVal_154 : decode cJ28_putTreeVal 154 = .ok (.aload 9, 2) := dk_25 9 (dk_at dksJ28_putTreeVal_6 14 rfl rfl)
theorem dJ28_putTreeVal_156 : decode cJ28_putTreeVal 156 = .ok (.getfield 42, 3) := dk_180 0 42 (dk_at dksJ28_putTreeVal_6 16 rfl rfl)
theorem dJ28_putTreeVal_159 : decode cJ28_putTreeVal 159 = .ok (.dup, 1) := dk_89 (dk_at dksJ28_putTreeVal_6 19 rfl rfl)
theorem dJ28_putTreeVal_160 : decode cJ28_putTreeVal 160 = .ok (.astore 14, 2) := dk_58 14 (dk_at dksJ28_putTreeVal_6 20 rfl rfl)
theorem dJ28_putTreeVal_162 : decode cJ28_putTreeVal 162 = .ok (.ifnull 22, 3) := dk_198 0 22 (dk_at dksJ28_putTreeVal_7 0 rfl rfl)
theorem dJ28_putTreeVal_165 : decode cJ28_putTreeVal 165 = .ok (.aload 14, 2) := dk_25 14 (dk_at dksJ28_putTreeVal_7 3 rfl rfl)
theorem dJ28_putTreeVal_167 : decode cJ28_putTreeVal 167 = .ok (.iload_n 3, 1) := dk_29 (dk_at dksJ28_putTreeVal_7 5 rfl rfl)
theorem dJ28_putTreeVal_168 : decode cJ28_putTreeVal 168 = .ok (.aload 4, 2) := dk_25 4 (dk_at dksJ28_putTreeVal_7 6 rfl rfl)
theorem dJ28_putTreeVal_170 : decode cJ28_putTreeVal 170 = .ok (.aload 6, 2) := dk_25 6 (dk_at dksJ28_putTreeVal_7 8 rfl rfl)
theorem dJ28_putTreeVal_172 : decode cJ28_putTreeVal 172 = .ok (.invokevirtual 63, 3) := dk_182 0 63 (dk_at dksJ28_putTreeVal_7 10 rfl rfl)
theorem dJ28_putTreeVal_175 : decode cJ28_putTreeVal 175 = .ok (.dup, 1) := dk_89 (dk_at dksJ28_putTreeVal_7 13 rfl rfl)
theorem dJ28_putTreeVal_176 : decode cJ28_putTreeVal 176 = .ok (.astore 13, 2) := dk_58 13 (dk_at dksJ28_putTreeVal_7 14 rfl rfl)
theorem dJ28_putTreeVal_178 : decode cJ28_putTreeVal 178 = .ok (.ifnull 6, 3) := dk_198 0 6 (dk_at dksJ28_putTreeVal_7 16 rfl rfl)
theorem dJ28_putTreeVal_181 : decode cJ28_putTreeVal 181 = .ok (.aload 13, 2) := dk_25 13 (dk_at dksJ28_putTreeVal_7 19 rfl rfl)
theorem dJ28_putTreeVal_183 : decode cJ28_putTreeVal 183 = .ok (.areturn, 1) := dk_176 (dk_at dksJ28_putTreeVal_7 21 rfl rfl)
theorem dJ28_putTreeVal_184 : decode cJ28_putTreeVal 184 = .ok (.aload 4, 2) := dk_25 4 (dk_at dksJ28_putTreeVal_7 22 rfl rfl)
theorem dJ28_putTreeVal_186 : decode cJ28_putTreeVal 186 = .ok (.aload 12, 2) := dk_25 12 (dk_at dksJ28_putTreeVal_8 0 rfl rfl)
theorem dJ28_putTreeVal_188 : decode cJ28_putTreeVal 188 = .ok (.invokestatic 96, 3) := dk_184 0 96 (dk_at dksJ28_putTreeVal_8 2 rfl rfl)
theorem dJ28_putTreeVal_191 : decode cJ28_putTreeVal 191 = .ok (.istore 10, 2) := dk_54 10 (dk_at dksJ28_putTreeVal_8 5 rfl rfl)
theorem dJ28_putTreeVal_193 : decode cJ28_putTreeVal 193 = .ok (.aload 9, 2) := dk_25 9 (dk_at dksJ28_putTreeVal_8 7 rfl rfl)
theorem dJ28_putTreeVal_195 : decode cJ28_putTreeVal 195 = .ok (.astore 13, 2) := dk_58 13 (dk_at dksJ28_putTreeVal_8 9 rfl rfl)
theorem dJ28_putTreeVal_197 : decode cJ28_putTreeVal 197 = .ok (.iload 10, 2) := dk_21 10 (dk_at dksJ28_putTreeVal_8 11 rfl rfl)
theorem dJ28_putTreeVal_199 : decode cJ28_putTreeVal 199 = .ok (.ifCond .gt 11, 3) := dk_157 0 11 (dk_at dksJ28_putTreeVal_8 13 rfl rfl)
theorem dJ28_putTreeVal_202 : decode cJ28_putTreeVal 202 = .ok (.aload 9, 2) := dk_25 9 (dk_at dksJ28_putTreeVal_8 16 rfl rfl)
theorem dJ28_putTreeVal_204 : decode cJ28_putTreeVal 204 = .ok (.getfield 39, 3) := dk_180 0 39 (dk_at dksJ28_putTreeVal_8 18 rfl rfl)
theorem dJ28_putTreeVal_207 : decode cJ28_putTreeVal 207 = .ok (.goto 8, 3) := dk_167 0 8 (dk_at dksJ28_putTreeVal_8 21 rfl rfl)
theorem dJ28_putTreeVal_210 : decode cJ28_putTreeVal 210 = .ok (.aload 9, 2) := dk_25 9 (dk_at dksJ28_putTreeVal_9 0 rfl rfl)
theorem dJ28_putTreeVal_212 : decode cJ28_putTreeVal 212 = .ok (.getfield 42, 3) := dk_180 0 42 (dk_at dksJ28_putTreeVal_9 2 rfl rfl)
theorem dJ28_putTreeVal_215 : decode cJ28_putTreeVal 215 = .ok (.dup, 1) := dk_89 (dk_at dksJ28_putTreeVal_9 5 rfl rfl)
theorem dJ28_putTreeVal_216 : decode cJ28_putTreeVal 216 = .ok (.astore 9, 2) := dk_58 9 (dk_at dksJ28_putTreeVal_9 6 rfl rfl)
theorem dJ28_putTreeVal_218 : decode cJ28_putTreeVal 218 = .ok (.ifnonnull 93, 3) := dk_199 0 93 (dk_at dksJ28_putTreeVal_9 8 rfl rfl)
theorem dJ28_putTreeVal_221 : decode cJ28_putTreeVal 221 = .ok (.aload 13, 2) := dk_25 13 (dk_at dksJ28_putTreeVal_9 11 rfl rfl)
theorem dJ28_putTreeVal_223 : decode cJ28_putTreeVal 223 = .ok (.getfield 22, 3) := dk_180 0 22 (dk_at dksJ28_putTreeVal_9 13 rfl rfl)
theorem dJ28_putTreeVal_226 : decode cJ28_putTreeVal 226 = .ok (.astore 14, 2) := dk_58 14 (dk_at dksJ28_putTreeVal_9 16 rfl rfl)
theorem dJ28_putTreeVal_228 : decode cJ28_putTreeVal 228 = .ok (.aload_n 1, 1) := dk_43 (dk_at dksJ28_putTreeVal_9 18 rfl rfl)
theorem dJ28_putTreeVal_229 : decode cJ28_putTreeVal 229 = .ok (.iload_n 3, 1) := dk_29 (dk_at dksJ28_putTreeVal_9 19 rfl rfl)
theorem dJ28_putTreeVal_230 : decode cJ28_putTreeVal 230 = .ok (.aload 4, 2) := dk_25 4 (dk_at dksJ28_putTreeVal_9 20 rfl rfl)
theorem dJ28_putTreeVal_232 : decode cJ28_putTreeVal 232 = .ok (.aload 5, 2) := dk_25 5 (dk_at dksJ28_putTreeVal_9 22 rfl rfl)
theorem dJ28_putTreeVal_234 : decode cJ28_putTreeVal 234 = .ok (.aload 14, 2) := dk_25 14 (dk_at dksJ28_putTreeVal_10 0 rfl rfl)
theorem dJ28_putTreeVal_236 : decode cJ28_putTreeVal 236 = .ok (.invokevirtual 115, 3) := dk_182 0 115 (dk_at dksJ28_putTreeVal_10 2 rfl rfl)
theorem dJ28_putTreeVal_239 : decode cJ28_putTreeVal 239 = .ok (.astore 15, 2) := dk_58 15 (dk_at dksJ28_putTreeVal_10 5 rfl rfl)
theorem dJ28_putTreeVal_241 : decode cJ28_putTreeVal 241 = .ok (.iload 10, 2) := dk_21 10 (dk_at dksJ28_putTreeVal_10 7 rfl rfl)
theorem dJ28_putTreeVal_243 : decode cJ28_putTreeVal 243 = .ok (.ifCond .gt 13, 3) := dk_157 0 13 (dk_at dksJ28_putTreeVal_10 9 rfl rfl)
theorem dJ28_putTreeVal_246 : decode cJ28_putTreeVal 246 = .ok (.aload 13, 2) := dk_25 13 (dk_at dksJ28_putTreeVal_10 12 rfl rfl)
theorem dJ28_putTreeVal_248 : decode cJ28_putTreeVal 248 = .ok (.aload 15, 2) := dk_25 15 (dk_at dksJ28_putTreeVal_10 14 rfl rfl)
theorem dJ28_putTreeVal_250 : decode cJ28_putTreeVal 250 = .ok (.putfield 39, 3) := dk_181 0 39 (dk_at dksJ28_putTreeVal_10 16 rfl rfl)
theorem dJ28_putTreeVal_253 : decode cJ28_putTreeVal 253 = .ok (.goto 10, 3) := dk_167 0 10 (dk_at dksJ28_putTreeVal_10 19 rfl rfl)
theorem dJ28_putTreeVal_256 : decode cJ28_putTreeVal 256 = .ok (.aload 13, 2) := dk_25 13 (dk_at dksJ28_putTreeVal_10 22 rfl rfl)
theorem dJ28_putTreeVal_258 : decode cJ28_putTreeVal 258 = .ok (.aload 15, 2) := dk_25 15 (dk_at dksJ28_putTreeVal_11 0 rfl rfl)
theorem dJ28_putTreeVal_260 : decode cJ28_putTreeVal 260 = .ok (.putfield 42, 3) := dk_181 0 42 (dk_at dksJ28_putTreeVal_11 2 rfl rfl)
theorem dJ28_putTreeVal_263 : decode cJ28_putTreeVal 263 = .ok (.aload 13, 2) := dk_25 13 (dk_at dksJ28_putTreeVal_11 5 rfl rfl)
theorem dJ28_putTreeVal_265 : decode cJ28_putTreeVal 265 = .ok (.aload 15, 2) := dk_25 15 (dk_at dksJ28_putTreeVal_11 7 rfl rfl)
theorem dJ28_putTreeVal_267 : decode cJ28_putTreeVal 267 = .ok (.putfield 22, 3) := dk_181 0 22 (dk_at dksJ28_putTreeVal_11 9 rfl rfl)
theorem dJ28_putTreeVal_270 : decode cJ28_putTreeVal 270 = .ok (.aload 15, 2) := dk_25 15 (dk_at dksJ28_putTreeVal_11 12 rfl rfl)
theorem dJ28_putTreeVal_272 : decode cJ28_putTreeVal 272 = .ok (.aload 15, 2) := dk_25 15 (dk_at dksJ28_putTreeVal_11 14 rfl rfl)
theorem dJ28_putTreeVal_274 : decode cJ28_putTreeVal 274 = .ok (.aload 13, 2) := dk_25 13 (dk_at dksJ28_putTreeVal_11 16 rfl rfl)
theorem dJ28_putTreeVal_276 : decode cJ28_putTreeVal 276 = .ok (.dup_x1, 1) := dk_90 (dk_at dksJ28_putTreeVal_11 18 rfl rfl)
theorem dJ28_putTreeVal_277 : decode cJ28_putTreeVal 277 = .ok (.putfield 19, 3) := dk_181 0 19 (dk_at dksJ28_putTreeVal_11 19 rfl rfl)
theorem dJ28_putTreeVal_280 : decode cJ28_putTreeVal 280 = .ok (.putfield 9, 3) := dk_181 0 9 (dk_at dksJ28_putTreeVal_12 0 rfl rfl)
theorem dJ28_putTreeVal_283 : decode cJ28_putTreeVal 283 = .ok (.aload 14, 2) := dk_25 14 (dk_at dksJ28_putTreeVal_12 3 rfl rfl)
theorem dJ28_putTreeVal_285 : decode cJ28_putTreeVal 285 = .ok (.ifnull 13, 3) := dk_198 0 13 (dk_at dksJ28_putTreeVal_12 5 rfl rfl)
theorem dJ28_putTreeVal_288 : decode cJ28_putTreeVal 288 = .ok (.aload 14, 2) := dk_25 14 (dk_at dksJ28_putTreeVal_12 8 rfl rfl)
theorem dJ28_putTreeVal_290 : decode cJ28_putTreeVal 290 = .ok (.checkcast 10, 3) := dk_192 0 10 (dk_at dksJ28_putTreeVal_12 10 rfl rfl)
theorem dJ28_putTreeVal_293 : decode cJ28_putTreeVal 293 = .ok (.aload 15, 2) := dk_25 15 (dk_at dksJ28_putTreeVal_12 13 rfl rfl)
theorem dJ28_putTreeVal_295 : decode cJ28_putTreeVal 295 = .ok (.putfield 19, 3) := dk_181 0 19 (dk_at dksJ28_putTreeVal_12 15 rfl rfl)
theorem dJ28_putTreeVal_298 : decode cJ28_putTreeVal 298 = .ok (.aload_n 2, 1) := dk_44 (dk_at dksJ28_putTreeVal_12 18 rfl rfl)
theorem dJ28_putTreeVal_299 : decode cJ28_putTreeVal 299 = .ok (.aload 8, 2) := dk_25 8 (dk_at dksJ28_putTreeVal_12 19 rfl rfl)
theorem dJ28_putTreeVal_301 : decode cJ28_putTreeVal 301 = .ok (.aload 15, 2) := dk_25 15 (dk_at dksJ28_putTreeVal_12 21 rfl rfl)
theorem dJ28_putTreeVal_303 : decode cJ28_putTreeVal 303 = .ok (.invokestatic 100, 3) := dk_184 0 100 (dk_at dksJ28_putTreeVal_13 0 rfl rfl)
theorem dJ28_putTreeVal_306 : decode cJ28_putTreeVal 306 = .ok (.invokestatic 104, 3) := dk_184 0 104 (dk_at dksJ28_putTreeVal_13 3 rfl rfl)
theorem dJ28_putTreeVal_309 : decode cJ28_putTreeVal 309 = .ok (.aconst_null, 1) := dk_1 (dk_at dksJ28_putTreeVal_13 6 rfl rfl)
theorem dJ28_putTreeVal_310 : decode cJ28_putTreeVal 310 = .ok (.areturn, 1) := dk_176 (dk_at dksJ28_putTreeVal_13 7 rfl rfl)
theorem dJ28_putTreeVal_311 : decode cJ28_putTreeVal 311 = .ok (.goto (-284), 3) := dk_167 254 228 (dk_at dksJ28_putTreeVal_13 8 rfl rfl)
abbrev cJ28_init : ByteArray := prog_86_method_1_code
def yJ28_init : MethodName := ⟨RJ28, "<init>", "(ILjava/lang/Object;Ljava/lang/Object;Ljava/util/HashMap$Node;)V"⟩
def dkwJ28_init_0 : List UInt8 := [42, 27, 44, 45, 25, 4, 183, 0, 3, 177]
abbrev dktJ28_init_0 : List UInt8 := dkwJ28_init_0 ++ []
theorem dksJ28_init_0 : cJ28_init.data.toList.drop 0 = dktJ28_init_0 := by decide +kernel
theorem dJ28_init_0 : decode cJ28_init 0 = .ok (.aload_n 0, 1) := dk_42 (dk_at dksJ28_init_0 0 rfl rfl)
theorem dJ28_init_1 : decode cJ28_init 1 = .ok (.iload_n 1, 1) := dk_27 (dk_at dksJ28_init_0 1 rfl rfl)
theorem dJ28_init_2 : decode cJ28_init 2 = .ok (.aload_n 2, 1) := dk_44 (dk_at dksJ28_init_0 2 rfl rfl)
theorem dJ28_init_3 : decode cJ28_init 3 = .ok (.aload_n 3, 1) := dk_45 (dk_at dksJ28_init_0 3 rfl rfl)
theorem dJ28_init_4 : decode cJ28_init 4 = .ok (.aload 4, 2) := dk_25 4 (dk_at dksJ28_init_0 4 rfl rfl)
theorem dJ28_init_6 : decode cJ28_init 6 = .ok (.invokespecial 3, 3) := dk_183 0 3 (dk_at dksJ28_init_0 6 rfl rfl)
theorem dJ28_init_9 : decode cJ28_init 9 = .ok (.return_, 1) := dk_177 (dk_at dksJ28_init_0 9 rfl rfl)
theorem q143 : (Jvm.Cond.initialized "java/util/HashMap$TreeNode") ∈ lw_all := lw_g (lw_at lw_m1 44 rfl) rfl
theorem q838 : (Jvm.Cond.selects "java/util/HashMap$TreeNode" ({ cls := "java/lang/Object", name := "getClass", desc := "()Ljava/lang/Class;" } : Jvm.MethodName) ({ cls := "java/lang/Object", name := "getClass", desc := "()Ljava/lang/Class;" } : Jvm.MethodName)) ∈ lw_all := lw_g (lw_at lw_m4 19 rfl) rfl
theorem q1225 : (Jvm.Cond.instanceMethod ({ cls := "java/util/HashMap$TreeNode", name := "getTreeNode", desc := "(ILjava/lang/Object;)Ljava/util/HashMap$TreeNode;" } : Jvm.MethodName)) ∈ lw_all := lw_g (lw_at lw_m5 166 rfl) rfl
theorem q1226 : (Jvm.Cond.selects "java/util/HashMap$TreeNode" ({ cls := "java/util/HashMap$TreeNode", name := "getTreeNode", desc := "(ILjava/lang/Object;)Ljava/util/HashMap$TreeNode;" } : Jvm.MethodName) ({ cls := "java/util/HashMap$TreeNode", name := "getTreeNode", desc := "(ILjava/lang/Object;)Ljava/util/HashMap$TreeNode;" } : Jvm.MethodName)) ∈ lw_all := lw_g (lw_at lw_m5 167 rfl) rfl
theorem q1227 : (Jvm.Cond.code ({ cls := "java/util/HashMap$TreeNode", name := "getTreeNode", desc := "(ILjava/lang/Object;)Ljava/util/HashMap$TreeNode;" } : Jvm.MethodName) prog_86_method_5_code (3 : Nat) (Option.some (Jvm.ClassFile.FieldType.object "java/util/HashMap$TreeNode"))) ∈ lw_all := lw_g (lw_at lw_m5 168 rfl) rfl
theorem q1228 : (Jvm.Cond.methodLink "java/util/HashMap$TreeNode" (67 : Nat) ({ cls := "java/util/HashMap$TreeNode", name := "root", desc := "()Ljava/util/HashMap$TreeNode;" } : Jvm.MethodName)) ∈ lw_all := lw_g (lw_at lw_m5 169 rfl) rfl
theorem q1229 : (Jvm.Cond.instanceMethod ({ cls := "java/util/HashMap$TreeNode", name := "root", desc := "()Ljava/util/HashMap$TreeNode;" } : Jvm.MethodName)) ∈ lw_all := lw_g (lw_at lw_m5 170 rfl) rfl
theorem q1230 : (Jvm.Cond.selects "java/util/HashMap$TreeNode" ({ cls := "java/util/HashMap$TreeNode", name := "root", desc := "()Ljava/util/HashMap$TreeNode;" } : Jvm.MethodName) ({ cls := "java/util/HashMap$TreeNode", name := "root", desc := "()Ljava/util/HashMap$TreeNode;" } : Jvm.MethodName)) ∈ lw_all := lw_g (lw_at lw_m5 171 rfl) rfl
theorem q1231 : (Jvm.Cond.code ({ cls := "java/util/HashMap$TreeNode", name := "root", desc := "()Ljava/util/HashMap$TreeNode;" } : Jvm.MethodName) prog_86_method_2_code (3 : Nat) (Option.some (Jvm.ClassFile.FieldType.object "java/util/HashMap$TreeNode"))) ∈ lw_all := lw_g (lw_at lw_m5 172 rfl) rfl
theorem q1232 : (Jvm.Cond.methodLink "java/util/HashMap$TreeNode" (63 : Nat) ({ cls := "java/util/HashMap$TreeNode", name := "find", desc := "(ILjava/lang/Object;Ljava/lang/Class;)Ljava/util/HashMap$TreeNode;" } : Jvm.MethodName)) ∈ lw_all := lw_g (lw_at lw_m5 173 rfl) rfl
theorem q1233 : (Jvm.Cond.instanceMethod ({ cls := "java/util/HashMap$TreeNode", name := "find", desc := "(ILjava/lang/Object;Ljava/lang/Class;)Ljava/util/HashMap$TreeNode;" } : Jvm.MethodName)) ∈ lw_all := lw_g (lw_at lw_m5 174 rfl) rfl
theorem q1234 : (Jvm.Cond.selects "java/util/HashMap$TreeNode" ({ cls := "java/util/HashMap$TreeNode", name := "find", desc := "(ILjava/lang/Object;Ljava/lang/Class;)Ljava/util/HashMap$TreeNode;" } : Jvm.MethodName) ({ cls := "java/util/HashMap$TreeNode", name := "find", desc := "(ILjava/lang/Object;Ljava/lang/Class;)Ljava/util/HashMap$TreeNode;" } : Jvm.MethodName)) ∈ lw_all := lw_g (lw_at lw_m5 175 rfl) rfl
theorem q1235 : (Jvm.Cond.code ({ cls := "java/util/HashMap$TreeNode", name := "find", desc := "(ILjava/lang/Object;Ljava/lang/Class;)Ljava/util/HashMap$TreeNode;" } : Jvm.MethodName) prog_86_method_4_code (11 : Nat) (Option.some (Jvm.ClassFile.FieldType.object "java/util/HashMap$TreeNode"))) ∈ lw_all := lw_g (lw_at lw_m5 176 rfl) rfl
theorem q1236 : (Jvm.Cond.methodLink "java/util/HashMap$TreeNode" (49 : Nat) ({ cls := "java/lang/Object", name := "equals", desc := "(Ljava/lang/Object;)Z" } : Jvm.MethodName)) ∈ lw_all := lw_g (lw_at lw_m5 177 rfl) rfl
theorem q1237 : (Jvm.Cond.methodLink "java/util/HashMap$TreeNode" (55 : Nat) ({ cls := "java/util/HashMap", name := "comparableClassFor", desc := "(Ljava/lang/Object;)Ljava/lang/Class;" } : Jvm.MethodName)) ∈ lw_all := lw_g (lw_at lw_m5 178 rfl) rfl
theorem q1243 : (Jvm.Cond.methodLink "java/util/HashMap$TreeNode" (59 : Nat) ({ cls := "java/util/HashMap", name := "compareComparables", desc := "(Ljava/lang/Class;Ljava/lang/Object;Ljava/lang/Object;)I" } : Jvm.MethodName)) ∈ lw_all := lw_g (lw_at lw_m5 184 rfl) rfl
theorem q1603 : (Jvm.Cond.instanceMethod ({ cls := "java/util/HashMap$TreeNode", name := "split", desc := "(Ljava/util/HashMap;[Ljava/util/HashMap$Node;II)V" } : Jvm.MethodName)) ∈ lw_all := lw_g (lw_at lw_m7 64 rfl) rfl
theorem q1604 : (Jvm.Cond.selects "java/util/HashMap$TreeNode" ({ cls := "java/util/HashMap$TreeNode", name := "split", desc := "(Ljava/util/HashMap;[Ljava/util/HashMap$Node;II)V" } : Jvm.MethodName) ({ cls := "java/util/HashMap$TreeNode", name := "split", desc := "(Ljava/util/HashMap;[Ljava/util/HashMap$Node;II)V" } : Jvm.MethodName)) ∈ lw_all := lw_g (lw_at lw_m7 65 rfl) rfl
theorem q1605 : (Jvm.Cond.code ({ cls := "java/util/HashMap$TreeNode", name := "split", desc := "(Ljava/util/HashMap;[Ljava/util/HashMap$Node;II)V" } : Jvm.MethodName) prog_86_method_11_code (14 : Nat) (Option.none : Option Jvm.ClassFile.FieldType)) ∈ lw_all := lw_g (lw_at lw_m7 66 rfl) rfl
theorem q1606 : (Jvm.Cond.classLink "java/util/HashMap$TreeNode" (10 : Nat) "java/util/HashMap$TreeNode") ∈ lw_all := lw_g (lw_at lw_m7 67 rfl) rfl
theorem q1607 : (Jvm.Cond.methodLink "java/util/HashMap$TreeNode" (119 : Nat) ({ cls := "java/util/HashMap$TreeNode", name := "untreeify", desc := "(Ljava/util/HashMap;)Ljava/util/HashMap$Node;" } : Jvm.MethodName)) ∈ lw_all := lw_g (lw_at lw_m7 68 rfl) rfl
theorem q1608 : (Jvm.Cond.instanceMethod ({ cls := "java/util/HashMap$TreeNode", name := "untreeify", desc := "(Ljava/util/HashMap;)Ljava/util/HashMap$Node;" } : Jvm.MethodName)) ∈ lw_all := lw_g (lw_at lw_m7 69 rfl) rfl
theorem q1609 : (Jvm.Cond.selects "java/util/HashMap$TreeNode" ({ cls := "java/util/HashMap$TreeNode", name := "untreeify", desc := "(Ljava/util/HashMap;)Ljava/util/HashMap$Node;" } : Jvm.MethodName) ({ cls := "java/util/HashMap$TreeNode", name := "untreeify", desc := "(Ljava/util/HashMap;)Ljava/util/HashMap$Node;" } : Jvm.MethodName)) ∈ lw_all := lw_g (lw_at lw_m7 70 rfl) rfl
theorem q1610 : (Jvm.Cond.code ({ cls := "java/util/HashMap$TreeNode", name := "untreeify", desc := "(Ljava/util/HashMap;)Ljava/util/HashMap$Node;" } : Jvm.MethodName) prog_86_method_8_code (6 : Nat) (Option.some (Jvm.ClassFile.FieldType.object "java/util/HashMap$Node"))) ∈ lw_all := lw_g (lw_at lw_m7 71 rfl) rfl
theorem q1611 : (Jvm.Cond.methodLink "java/util/HashMap$TreeNode" (108 : Nat) ({ cls := "java/util/HashMap", name := "replacementNode", desc := "(Ljava/util/HashMap$Node;Ljava/util/HashMap$Node;)Ljava/util/HashMap$Node;" } : Jvm.MethodName)) ∈ lw_all := lw_g (lw_at lw_m7 72 rfl) rfl
theorem q1621 : (Jvm.Cond.fieldLink "java/util/HashMap$TreeNode" (15 : Nat) "java/util/HashMap$TreeNode" "hash" "I") ∈ lw_all := lw_g (lw_at lw_m7 82 rfl) rfl
theorem q1622 : (Jvm.Cond.sameField "java/util/HashMap$TreeNode" "java/util/HashMap$Node" "hash" "I") ∈ lw_all := lw_g (lw_at lw_m7 83 rfl) rfl
theorem q1625 : (Jvm.Cond.fieldLink "java/util/HashMap$TreeNode" (45 : Nat) "java/util/HashMap$TreeNode" "key" "Ljava/lang/Object;") ∈ lw_all := lw_g (lw_at lw_m7 86 rfl) rfl
theorem q1626 : (Jvm.Cond.sameField "java/util/HashMap$TreeNode" "java/util/HashMap$Node" "key" "Ljava/lang/Object;") ∈ lw_all := lw_g (lw_at lw_m7 87 rfl) rfl
theorem q1631 : (Jvm.Cond.fieldLink "java/util/HashMap$TreeNode" (22 : Nat) "java/util/HashMap$TreeNode" "next" "Ljava/util/HashMap$Node;") ∈ lw_all := lw_g (lw_at lw_m7 92 rfl) rfl
theorem q1632 : (Jvm.Cond.sameField "java/util/HashMap$TreeNode" "java/util/HashMap$Node" "next" "Ljava/util/HashMap$Node;") ∈ lw_all := lw_g (lw_at lw_m7 93 rfl) rfl
theorem q1633 : (Jvm.Cond.fieldLink "java/util/HashMap$TreeNode" (112 : Nat) "java/util/HashMap$Node" "next" "Ljava/util/HashMap$Node;") ∈ lw_all := lw_g (lw_at lw_m7 94 rfl) rfl
theorem q1645 : (Jvm.Cond.methodLink "java/util/HashMap$TreeNode" (126 : Nat) ({ cls := "java/util/HashMap$TreeNode", name := "treeify", desc := "([Ljava/util/HashMap$Node;)V" } : Jvm.MethodName)) ∈ lw_all := lw_g (lw_at lw_m7 106 rfl) rfl
theorem q1646 : (Jvm.Cond.instanceMethod ({ cls := "java/util/HashMap$TreeNode", name := "treeify", desc := "([Ljava/util/HashMap$Node;)V" } : Jvm.MethodName)) ∈ lw_all := lw_g (lw_at lw_m7 107 rfl) rfl
theorem q1647 : (Jvm.Cond.selects "java/util/HashMap$TreeNode" ({ cls := "java/util/HashMap$TreeNode", name := "treeify", desc := "([Ljava/util/HashMap$Node;)V" } : Jvm.MethodName) ({ cls := "java/util/HashMap$TreeNode", name := "treeify", desc := "([Ljava/util/HashMap$Node;)V" } : Jvm.MethodName)) ∈ lw_all := lw_g (lw_at lw_m7 108 rfl) rfl
theorem q1648 : (Jvm.Cond.code ({ cls := "java/util/HashMap$TreeNode", name := "treeify", desc := "([Ljava/util/HashMap$Node;)V" } : Jvm.MethodName) prog_86_method_7_code (13 : Nat) (Option.none : Option Jvm.ClassFile.FieldType)) ∈ lw_all := lw_g (lw_at lw_m7 109 rfl) rfl
theorem q1649 : (Jvm.Cond.methodLink "java/util/HashMap$TreeNode" (100 : Nat) ({ cls := "java/util/HashMap$TreeNode", name := "balanceInsertion", desc := "(Ljava/util/HashMap$TreeNode;Ljava/util/HashMap$TreeNode;)Ljava/util/HashMap$TreeNode;" } : Jvm.MethodName)) ∈ lw_all := lw_g (lw_at lw_m7 110 rfl) rfl
theorem q1650 : (Jvm.Cond.static ({ cls := "java/util/HashMap$TreeNode", name := "balanceInsertion", desc := "(Ljava/util/HashMap$TreeNode;Ljava/util/HashMap$TreeNode;)Ljava/util/HashMap$TreeNode;" } : Jvm.MethodName)) ∈ lw_all := lw_g (lw_at lw_m7 111 rfl) rfl
theorem q1651 : (Jvm.Cond.code ({ cls := "java/util/HashMap$TreeNode", name := "balanceInsertion", desc := "(Ljava/util/HashMap$TreeNode;Ljava/util/HashMap$TreeNode;)Ljava/util/HashMap$TreeNode;" } : Jvm.MethodName) prog_86_method_14_code (6 : Nat) (Option.some (Jvm.ClassFile.FieldType.object "java/util/HashMap$TreeNode"))) ∈ lw_all := lw_g (lw_at lw_m7 112 rfl) rfl
theorem q1652 : (Jvm.Cond.methodLink "java/util/HashMap$TreeNode" (130 : Nat) ({ cls := "java/util/HashMap$TreeNode", name := "rotateLeft", desc := "(Ljava/util/HashMap$TreeNode;Ljava/util/HashMap$TreeNode;)Ljava/util/HashMap$TreeNode;" } : Jvm.MethodName)) ∈ lw_all := lw_g (lw_at lw_m7 113 rfl) rfl
theorem q1653 : (Jvm.Cond.static ({ cls := "java/util/HashMap$TreeNode", name := "rotateLeft", desc := "(Ljava/util/HashMap$TreeNode;Ljava/util/HashMap$TreeNode;)Ljava/util/HashMap$TreeNode;" } : Jvm.MethodName)) ∈ lw_all := lw_g (lw_at lw_m7 114 rfl) rfl
theorem q1654 : (Jvm.Cond.code ({ cls := "java/util/HashMap$TreeNode", name := "rotateLeft", desc := "(Ljava/util/HashMap$TreeNode;Ljava/util/HashMap$TreeNode;)Ljava/util/HashMap$TreeNode;" } : Jvm.MethodName) prog_86_method_12_code (5 : Nat) (Option.some (Jvm.ClassFile.FieldType.object "java/util/HashMap$TreeNode"))) ∈ lw_all := lw_g (lw_at lw_m7 115 rfl) rfl
theorem q1655 : (Jvm.Cond.methodLink "java/util/HashMap$TreeNode" (133 : Nat) ({ cls := "java/util/HashMap$TreeNode", name := "rotateRight", desc := "(Ljava/util/HashMap$TreeNode;Ljava/util/HashMap$TreeNode;)Ljava/util/HashMap$TreeNode;" } : Jvm.MethodName)) ∈ lw_all := lw_g (lw_at lw_m7 116 rfl) rfl
theorem q1656 : (Jvm.Cond.static ({ cls := "java/util/HashMap$TreeNode", name := "rotateRight", desc := "(Ljava/util/HashMap$TreeNode;Ljava/util/HashMap$TreeNode;)Ljava/util/HashMap$TreeNode;" } : Jvm.MethodName)) ∈ lw_all := lw_g (lw_at lw_m7 117 rfl) rfl
theorem q1657 : (Jvm.Cond.code ({ cls := "java/util/HashMap$TreeNode", name := "rotateRight", desc := "(Ljava/util/HashMap$TreeNode;Ljava/util/HashMap$TreeNode;)Ljava/util/HashMap$TreeNode;" } : Jvm.MethodName) prog_86_method_13_code (5 : Nat) (Option.some (Jvm.ClassFile.FieldType.object "java/util/HashMap$TreeNode"))) ∈ lw_all := lw_g (lw_at lw_m7 118 rfl) rfl
theorem q1658 : (Jvm.Cond.methodLink "java/util/HashMap$TreeNode" (104 : Nat) ({ cls := "java/util/HashMap$TreeNode", name := "moveRootToFront", desc := "([Ljava/util/HashMap$Node;Ljava/util/HashMap$TreeNode;)V" } : Jvm.MethodName)) ∈ lw_all := lw_g (lw_at lw_m7 119 rfl) rfl
theorem q1659 : (Jvm.Cond.static ({ cls := "java/util/HashMap$TreeNode", name := "moveRootToFront", desc := "([Ljava/util/HashMap$Node;Ljava/util/HashMap$TreeNode;)V" } : Jvm.MethodName)) ∈ lw_all := lw_g (lw_at lw_m7 120 rfl) rfl
theorem q1660 : (Jvm.Cond.code ({ cls := "java/util/HashMap$TreeNode", name := "moveRootToFront", desc := "([Ljava/util/HashMap$Node;Ljava/util/HashMap$TreeNode;)V" } : Jvm.MethodName) prog_86_method_3_code (7 : Nat) (Option.none : Option Jvm.ClassFile.FieldType)) ∈ lw_all := lw_g (lw_at lw_m7 121 rfl) rfl
theorem q1661 : (Jvm.Cond.fieldLink "java/util/HashMap$TreeNode" (26 : Nat) "java/util/HashMap$TreeNode" "$assertionsDisabled" "Z") ∈ lw_all := lw_g (lw_at lw_m7 122 rfl) rfl
theorem q1662 : (Jvm.Cond.laysStatic "java/util/HashMap$TreeNode" "$assertionsDisabled" "Z") ∈ lw_tbl := lw_at lw_m7 123 rfl
theorem q1668 : (Jvm.Cond.instanceMethod ({ cls := "java/util/HashMap$TreeNode", name := "putTreeVal", desc := "(Ljava/util/HashMap;[Ljava/util/HashMap$Node;ILjava/lang/Object;Ljava/lang/Object;)Ljava/util/HashMap$TreeNode;" } : Jvm.MethodName)) ∈ lw_all := lw_g (lw_at lw_m7 129 rfl) rfl
theorem q1669 : (Jvm.Cond.selects "java/util/HashMap$TreeNode" ({ cls := "java/util/HashMap$TreeNode", name := "putTreeVal", desc := "(Ljava/util/HashMap;[Ljava/util/HashMap$Node;ILjava/lang/Object;Ljava/lang/Object;)Ljava/util/HashMap$TreeNode;" } : Jvm.MethodName) ({ cls := "java/util/HashMap$TreeNode", name := "putTreeVal", desc := "(Ljava/util/HashMap;[Ljava/util/HashMap$Node;ILjava/lang/Object;Ljava/lang/Object;)Ljava/util/HashMap$TreeNode;" } : Jvm.MethodName)) ∈ lw_all := lw_g (lw_at lw_m7 130 rfl) rfl
theorem q1670 : (Jvm.Cond.code ({ cls := "java/util/HashMap$TreeNode", name := "putTreeVal", desc := "(Ljava/util/HashMap;[Ljava/util/HashMap$Node;ILjava/lang/Object;Ljava/lang/Object;)Ljava/util/HashMap$TreeNode;" } : Jvm.MethodName) prog_86_method_9_code (16 : Nat) (Option.some (Jvm.ClassFile.FieldType.object "java/util/HashMap$TreeNode"))) ∈ lw_all := lw_g (lw_at lw_m7 131 rfl) rfl
theorem q1671 : (Jvm.Cond.methodLink "java/util/HashMap$TreeNode" (115 : Nat) ({ cls := "java/util/HashMap", name := "newTreeNode", desc := "(ILjava/lang/Object;Ljava/lang/Object;Ljava/util/HashMap$Node;)Ljava/util/HashMap$TreeNode;" } : Jvm.MethodName)) ∈ lw_all := lw_g (lw_at lw_m7 132 rfl) rfl
theorem q1675 : (Jvm.Cond.instantiable "java/util/HashMap$TreeNode" (11 : Nat)) ∈ lw_all := lw_g (lw_at lw_m7 136 rfl) rfl
theorem q1677 : (Jvm.Cond.instanceMethod ({ cls := "java/util/HashMap$TreeNode", name := "<init>", desc := "(ILjava/lang/Object;Ljava/lang/Object;Ljava/util/HashMap$Node;)V" } : Jvm.MethodName)) ∈ lw_all := lw_g (lw_at lw_m7 138 rfl) rfl
theorem q1678 : (Jvm.Cond.code ({ cls := "java/util/HashMap$TreeNode", name := "<init>", desc := "(ILjava/lang/Object;Ljava/lang/Object;Ljava/util/HashMap$Node;)V" } : Jvm.MethodName) prog_86_method_1_code (5 : Nat) (Option.none : Option Jvm.ClassFile.FieldType)) ∈ lw_all := lw_g (lw_at lw_m7 139 rfl) rfl
theorem q1679 : (Jvm.Cond.methodLink "java/util/HashMap$TreeNode" (3 : Nat) ({ cls := "java/util/LinkedHashMap$Entry", name := "<init>", desc := "(ILjava/lang/Object;Ljava/lang/Object;Ljava/util/HashMap$Node;)V" } : Jvm.MethodName)) ∈ lw_all := lw_g (lw_at lw_m7 140 rfl) rfl
theorem q1683 : (Jvm.Cond.fieldLink "java/util/HashMap$TreeNode" (9 : Nat) "java/util/HashMap$TreeNode" "parent" "Ljava/util/HashMap$TreeNode;") ∈ lw_all := lw_g (lw_at lw_m7 144 rfl) rfl
theorem q1684 : (Jvm.Cond.fieldLink "java/util/HashMap$TreeNode" (39 : Nat) "java/util/HashMap$TreeNode" "left" "Ljava/util/HashMap$TreeNode;") ∈ lw_all := lw_g (lw_at lw_m7 145 rfl) rfl
theorem q1685 : (Jvm.Cond.fieldLink "java/util/HashMap$TreeNode" (42 : Nat) "java/util/HashMap$TreeNode" "right" "Ljava/util/HashMap$TreeNode;") ∈ lw_all := lw_g (lw_at lw_m7 146 rfl) rfl
theorem q1686 : (Jvm.Cond.fieldLink "java/util/HashMap$TreeNode" (19 : Nat) "java/util/HashMap$TreeNode" "prev" "Ljava/util/HashMap$TreeNode;") ∈ lw_all := lw_g (lw_at lw_m7 147 rfl) rfl
theorem q1688 : (Jvm.Cond.fieldLink "java/util/HashMap$TreeNode" (93 : Nat) "java/util/HashMap$TreeNode" "red" "Z") ∈ lw_all := lw_g (lw_at lw_m7 149 rfl) rfl
theorem q1689 : (Jvm.Cond.lays "java/util/HashMap$TreeNode" "java/util/HashMap$TreeNode" "parent" "Ljava/util/HashMap$TreeNode;") ∈ lw_all := lw_g (lw_at lw_m7 150 rfl) rfl
theorem q1690 : (Jvm.Cond.soleField "java/util/HashMap$TreeNode" "parent") ∈ lw_all := lw_g (lw_at lw_m7 151 rfl) rfl
theorem q1691 : (Jvm.Cond.lays "java/util/HashMap$TreeNode" "java/util/HashMap$TreeNode" "left" "Ljava/util/HashMap$TreeNode;") ∈ lw_all := lw_g (lw_at lw_m7 152 rfl) rfl
theorem q1692 : (Jvm.Cond.soleField "java/util/HashMap$TreeNode" "left") ∈ lw_all := lw_g (lw_at lw_m7 153 rfl) rfl
theorem q1693 : (Jvm.Cond.lays "java/util/HashMap$TreeNode" "java/util/HashMap$TreeNode" "right" "Ljava/util/HashMap$TreeNode;") ∈ lw_all := lw_g (lw_at lw_m7 154 rfl) rfl
theorem q1694 : (Jvm.Cond.soleField "java/util/HashMap$TreeNode" "right") ∈ lw_all := lw_g (lw_at lw_m7 155 rfl) rfl
theorem q1695 : (Jvm.Cond.lays "java/util/HashMap$TreeNode" "java/util/HashMap$TreeNode" "prev" "Ljava/util/HashMap$TreeNode;") ∈ lw_all := lw_g (lw_at lw_m7 156 rfl) rfl
theorem q1696 : (Jvm.Cond.soleField "java/util/HashMap$TreeNode" "prev") ∈ lw_all := lw_g (lw_at lw_m7 157 rfl) rfl
theorem q1697 : (Jvm.Cond.lays "java/util/HashMap$TreeNode" "java/util/HashMap$TreeNode" "red" "Z") ∈ lw_all := lw_g (lw_at lw_m7 158 rfl) rfl
theorem q1698 : (Jvm.Cond.soleField "java/util/HashMap$TreeNode" "red") ∈ lw_all := lw_g (lw_at lw_m7 159 rfl) rfl
theorem q1699 : (Jvm.Cond.lays "java/util/HashMap$TreeNode" "java/util/LinkedHashMap$Entry" "before" "Ljava/util/LinkedHashMap$Entry;") ∈ lw_all := lw_g (lw_at lw_m7 160 rfl) rfl
theorem q1701 : (Jvm.Cond.lays "java/util/HashMap$TreeNode" "java/util/LinkedHashMap$Entry" "after" "Ljava/util/LinkedHashMap$Entry;") ∈ lw_all := lw_g (lw_at lw_m7 162 rfl) rfl
theorem q1703 : (Jvm.Cond.laysFinal "java/util/HashMap$TreeNode" "java/util/HashMap$Node" "hash" "I") ∈ lw_all := lw_g (lw_at lw_m7 164 rfl) rfl
theorem q1704 : (Jvm.Cond.laysFinal "java/util/HashMap$TreeNode" "java/util/HashMap$Node" "key" "Ljava/lang/Object;") ∈ lw_all := lw_g (lw_at lw_m7 165 rfl) rfl
theorem q1705 : (Jvm.Cond.lays "java/util/HashMap$TreeNode" "java/util/HashMap$Node" "value" "Ljava/lang/Object;") ∈ lw_all := lw_g (lw_at lw_m7 166 rfl) rfl
theorem q1706 : (Jvm.Cond.lays "java/util/HashMap$TreeNode" "java/util/HashMap$Node" "next" "Ljava/util/HashMap$Node;") ∈ lw_all := lw_g (lw_at lw_m7 167 rfl) rfl
theorem q1707 : (Jvm.Cond.superclass "java/util/HashMap$TreeNode" "java/util/LinkedHashMap$Entry") ∈ lw_all := lw_g (lw_at lw_m7 168 rfl) rfl
theorem q3422 : (Jvm.Cond.castable "java/util/HashMap$TreeNode" "java/lang/Object") ∈ lw_tbl := lw_at lw_m14 203 rfl
theorem q3457 : (Jvm.Cond.castable "java/util/HashMap$TreeNode" "java/util/HashMap$Node") ∈ lw_tbl := lw_at lw_m14 238 rfl
theorem in_J28 : ∀ w ∈ wsJ280, w ∈ lw_all := lw_in wsJ280 [1699, 1701, 1703, 1704, 1705, 1706, 1689, 1691, 1693, 1695, 1697] (by decide +kernel) (by decide +kernel)

/-! java/lang/IndexOutOfBoundsException -/
def RJ29 : String := "java/lang/IndexOutOfBoundsException"
def TJ29 : u_T := fun k => match k with
  | 0 => ("java/lang/Throwable", "cause", "Ljava/lang/Throwable;", false)
  | 1 => ("java/lang/Throwable", "stackTrace", "[Ljava/lang/StackTraceElement;", false)
  | 2 => ("java/lang/Throwable", "suppressedExceptions", "Ljava/util/List;", false)
  | 3 => ("java/lang/Throwable", "detailMessage", "Ljava/lang/String;", false)
  | 4 => ("java/lang/Throwable", "backtrace", "Ljava/lang/Object;", false)
  | _ => ("java/lang/Throwable", "depth", "I", false)
def tyJ29 : Nat → FieldType := fun k => match k with
  | 0 => .object "java/lang/Throwable"
  | 1 => .array (.object "java/lang/StackTraceElement")
  | 2 => .object "java/util/List"
  | 3 => .object "java/lang/String"
  | 4 => .object "java/lang/Object"
  | _ => .int
abbrev wsJ290 : List Cond := u_ws RJ29 TJ29 6
theorem nmJ29 : ∀ a, a < 6 → ∀ b, b < 6 → a ≠ b → (TJ29 a).2.1 ≠ (TJ29 b).2.1 := by decide +kernel
theorem tyJ29_ok : ∀ k, k < 6 → parseFieldDescriptor (TJ29 k).2.2.1 = some (tyJ29 k) := by decide +kernel
abbrev cJ29_init : ByteArray := prog_60_method_1_code
def yJ29_init : MethodName := ⟨RJ29, "<init>", "()V"⟩
theorem dJ29_init_0 : decode cJ29_init 0 = .ok (.aload_n 0, 1) := by decide +kernel
theorem dJ29_init_1 : decode cJ29_init 1 = .ok (.invokespecial 1, 3) := by decide +kernel
theorem dJ29_init_4 : decode cJ29_init 4 = .ok (.return_, 1) := by decide +kernel
abbrev cJ29_init_2 : ByteArray := prog_60_method_2_code
def yJ29_init_2 : MethodName := ⟨RJ29, "<init>", "(Ljava/lang/String;)V"⟩
def dkwJ29_init_2_0 : List UInt8 := [42, 43, 183, 0, 7, 177]
abbrev dktJ29_init_2_0 : List UInt8 := dkwJ29_init_2_0 ++ []
theorem dksJ29_init_2_0 : cJ29_init_2.data.toList.drop 0 = dktJ29_init_2_0 := by decide +kernel
theorem dJ29_init_2_0 : decode cJ29_init_2 0 = .ok (.aload_n 0, 1) := dk_42 (dk_at dksJ29_init_2_0 0 rfl rfl)
theorem dJ29_init_2_1 : decode cJ29_init_2 1 = .ok (.aload_n 1, 1) := dk_43 (dk_at dksJ29_init_2_0 1 rfl rfl)
theorem dJ29_init_2_2 : decode cJ29_init_2 2 = .ok (.invokespecial 7, 3) := dk_183 0 7 (dk_at dksJ29_init_2_0 2 rfl rfl)
theorem dJ29_init_2_5 : decode cJ29_init_2 5 = .ok (.return_, 1) := dk_177 (dk_at dksJ29_init_2_0 5 rfl rfl)
theorem q161 : (Jvm.Cond.initialized "java/lang/IndexOutOfBoundsException") ∈ lw_all := lw_g (lw_at lw_m1 62 rfl) rfl
theorem q555 : (Jvm.Cond.selects "java/lang/IndexOutOfBoundsException" ({ cls := "java/lang/Throwable", name := "fillInStackTrace", desc := "()Ljava/lang/Throwable;" } : Jvm.MethodName) ({ cls := "java/lang/Throwable", name := "fillInStackTrace", desc := "()Ljava/lang/Throwable;" } : Jvm.MethodName)) ∈ lw_all := lw_g (lw_at lw_m2 216 rfl) rfl
theorem q829 : (Jvm.Cond.selects "java/lang/IndexOutOfBoundsException" ({ cls := "java/lang/Object", name := "getClass", desc := "()Ljava/lang/Class;" } : Jvm.MethodName) ({ cls := "java/lang/Object", name := "getClass", desc := "()Ljava/lang/Class;" } : Jvm.MethodName)) ∈ lw_all := lw_g (lw_at lw_m4 10 rfl) rfl
theorem q1092 : (Jvm.Cond.selects "java/lang/IndexOutOfBoundsException" ({ cls := "java/lang/Object", name := "hashCode", desc := "()I" } : Jvm.MethodName) ({ cls := "java/lang/Object", name := "hashCode", desc := "()I" } : Jvm.MethodName)) ∈ lw_all := lw_g (lw_at lw_m5 33 rfl) rfl
theorem q1209 : (Jvm.Cond.selects "java/lang/IndexOutOfBoundsException" ({ cls := "java/lang/Object", name := "equals", desc := "(Ljava/lang/Object;)Z" } : Jvm.MethodName) ({ cls := "java/lang/Object", name := "equals", desc := "(Ljava/lang/Object;)Z" } : Jvm.MethodName)) ∈ lw_all := lw_g (lw_at lw_m5 150 rfl) rfl
theorem q2442 : (Jvm.Cond.instantiable "java/lang/IndexOutOfBoundsException" (6 : Nat)) ∈ lw_all := lw_g (lw_at lw_m10 183 rfl) rfl
theorem q2443 : (Jvm.Cond.castable "java/lang/IndexOutOfBoundsException" "java/lang/IndexOutOfBoundsException") ∈ lw_tbl := lw_at lw_m10 184 rfl
theorem q2444 : (Jvm.Cond.selects "java/lang/IndexOutOfBoundsException" ({ cls := "java/lang/Throwable", name := "fillInStackTrace", desc := "(I)Ljava/lang/Throwable;" } : Jvm.MethodName) ({ cls := "java/lang/Throwable", name := "fillInStackTrace", desc := "(I)Ljava/lang/Throwable;" } : Jvm.MethodName)) ∈ lw_all := lw_g (lw_at lw_m10 185 rfl) rfl
theorem q2445 : (Jvm.Cond.lays "java/lang/IndexOutOfBoundsException" "java/lang/Throwable" "cause" "Ljava/lang/Throwable;") ∈ lw_all := lw_g (lw_at lw_m10 186 rfl) rfl
theorem q2446 : (Jvm.Cond.lays "java/lang/IndexOutOfBoundsException" "java/lang/Throwable" "stackTrace" "[Ljava/lang/StackTraceElement;") ∈ lw_all := lw_g (lw_at lw_m10 187 rfl) rfl
theorem q2447 : (Jvm.Cond.lays "java/lang/IndexOutOfBoundsException" "java/lang/Throwable" "suppressedExceptions" "Ljava/util/List;") ∈ lw_all := lw_g (lw_at lw_m10 188 rfl) rfl
theorem q2448 : (Jvm.Cond.lays "java/lang/IndexOutOfBoundsException" "java/lang/Throwable" "detailMessage" "Ljava/lang/String;") ∈ lw_all := lw_g (lw_at lw_m10 189 rfl) rfl
theorem q2449 : (Jvm.Cond.lays "java/lang/IndexOutOfBoundsException" "java/lang/Throwable" "backtrace" "Ljava/lang/Object;") ∈ lw_all := lw_g (lw_at lw_m10 190 rfl) rfl
theorem q2451 : (Jvm.Cond.instanceMethod ({ cls := "java/lang/IndexOutOfBoundsException", name := "<init>", desc := "()V" } : Jvm.MethodName)) ∈ lw_all := lw_g (lw_at lw_m10 192 rfl) rfl
theorem q2452 : (Jvm.Cond.code ({ cls := "java/lang/IndexOutOfBoundsException", name := "<init>", desc := "()V" } : Jvm.MethodName) prog_60_method_1_code (1 : Nat) (Option.none : Option Jvm.ClassFile.FieldType)) ∈ lw_all := lw_g (lw_at lw_m10 193 rfl) rfl
theorem q2453 : (Jvm.Cond.methodLink "java/lang/IndexOutOfBoundsException" (1 : Nat) ({ cls := "java/lang/RuntimeException", name := "<init>", desc := "()V" } : Jvm.MethodName)) ∈ lw_all := lw_g (lw_at lw_m10 194 rfl) rfl
theorem q2457 : (Jvm.Cond.lays "java/lang/IndexOutOfBoundsException" "java/lang/Throwable" "depth" "I") ∈ lw_all := lw_g (lw_at lw_m10 198 rfl) rfl
theorem q2458 : (Jvm.Cond.superclass "java/lang/IndexOutOfBoundsException" "java/lang/RuntimeException") ∈ lw_all := lw_g (lw_at lw_m10 199 rfl) rfl
theorem q2547 : (Jvm.Cond.instanceMethod ({ cls := "java/lang/IndexOutOfBoundsException", name := "<init>", desc := "(Ljava/lang/String;)V" } : Jvm.MethodName)) ∈ lw_all := lw_g (lw_at lw_m11 48 rfl) rfl
theorem q2548 : (Jvm.Cond.code ({ cls := "java/lang/IndexOutOfBoundsException", name := "<init>", desc := "(Ljava/lang/String;)V" } : Jvm.MethodName) prog_60_method_2_code (2 : Nat) (Option.none : Option Jvm.ClassFile.FieldType)) ∈ lw_all := lw_g (lw_at lw_m11 49 rfl) rfl
theorem q2549 : (Jvm.Cond.methodLink "java/lang/IndexOutOfBoundsException" (7 : Nat) ({ cls := "java/lang/RuntimeException", name := "<init>", desc := "(Ljava/lang/String;)V" } : Jvm.MethodName)) ∈ lw_all := lw_g (lw_at lw_m11 50 rfl) rfl
theorem q2558 : (Jvm.Cond.declares ({ cls := "java/lang/IndexOutOfBoundsException", name := "<init>", desc := "()V" } : Jvm.MethodName)) ∈ lw_tbl := lw_at lw_m11 59 rfl
theorem q2559 : (Jvm.Cond.declares ({ cls := "java/lang/IndexOutOfBoundsException", name := "<init>", desc := "(Ljava/lang/String;)V" } : Jvm.MethodName)) ∈ lw_tbl := lw_at lw_m11 60 rfl
theorem q3452 : (Jvm.Cond.castable "java/lang/IndexOutOfBoundsException" "java/lang/Object") ∈ lw_tbl := lw_at lw_m14 233 rfl
theorem in_J29 : ∀ w ∈ wsJ290, w ∈ lw_all := lw_in wsJ290 [2445, 2446, 2447, 2448, 2449, 2457] (by decide +kernel) (by decide +kernel)

/-! java/util/Optional -/
def RJ31 : String := "java/util/Optional"
def TJ31 : u_T := fun k => match k with
  | _ => ("java/util/Optional", "value", "Ljava/lang/Object;", true)
def tyJ31 : Nat → FieldType := fun k => match k with
  | _ => .object "java/lang/Object"
abbrev wsJ310 : List Cond := u_ws RJ31 TJ31 1
theorem nmJ31 : ∀ a, a < 1 → ∀ b, b < 1 → a ≠ b → (TJ31 a).2.1 ≠ (TJ31 b).2.1 := by decide +kernel
theorem tyJ31_ok : ∀ k, k < 1 → parseFieldDescriptor (TJ31 k).2.2.1 = some (tyJ31 k) := by decide +kernel
abbrev cJ31_of : ByteArray := prog_93_method_3_code
def yJ31_of : MethodName := ⟨RJ31, "of", "(Ljava/lang/Object;)Ljava/util/Optional;"⟩
def dkwJ31_of_0 : List UInt8 := [187, 0, 2, 89, 42, 184, 0, 17, 183, 0, 23, 176]
abbrev dktJ31_of_0 : List UInt8 := dkwJ31_of_0 ++ []
theorem dksJ31_of_0 : cJ31_of.data.toList.drop 0 = dktJ31_of_0 := by decide +kernel
theorem dJ31_of_0 : decode cJ31_of 0 = .ok (.new 2, 3) := dk_187 0 2 (dk_at dksJ31_of_0 0 rfl rfl)
theorem dJ31_of_3 : decode cJ31_of 3 = .ok (.dup, 1) := dk_89 (dk_at dksJ31_of_0 3 rfl rfl)
theorem dJ31_of_4 : decode cJ31_of 4 = .ok (.aload_n 0, 1) := dk_42 (dk_at dksJ31_of_0 4 rfl rfl)
theorem dJ31_of_5 : decode cJ31_of 5 = .ok (.invokestatic 17, 3) := dk_184 0 17 (dk_at dksJ31_of_0 5 rfl rfl)
theorem dJ31_of_8 : decode cJ31_of 8 = .ok (.invokespecial 23, 3) := dk_183 0 23 (dk_at dksJ31_of_0 8 rfl rfl)
theorem dJ31_of_11 : decode cJ31_of 11 = .ok (.areturn, 1) := dk_176 (dk_at dksJ31_of_0 11 rfl rfl)
abbrev cJ31_init : ByteArray := prog_93_method_2_code
def yJ31_init : MethodName := ⟨RJ31, "<init>", "(Ljava/lang/Object;)V"⟩
def dkwJ31_init_0 : List UInt8 := [42, 183, 0, 7, 42, 43, 181, 0, 13, 177]
abbrev dktJ31_init_0 : List UInt8 := dkwJ31_init_0 ++ []
theorem dksJ31_init_0 : cJ31_init.data.toList.drop 0 = dktJ31_init_0 := by decide +kernel
theorem dJ31_init_0 : decode cJ31_init 0 = .ok (.aload_n 0, 1) := dk_42 (dk_at dksJ31_init_0 0 rfl rfl)
theorem dJ31_init_1 : decode cJ31_init 1 = .ok (.invokespecial 7, 3) := dk_183 0 7 (dk_at dksJ31_init_0 1 rfl rfl)
theorem dJ31_init_4 : decode cJ31_init 4 = .ok (.aload_n 0, 1) := dk_42 (dk_at dksJ31_init_0 4 rfl rfl)
theorem dJ31_init_5 : decode cJ31_init 5 = .ok (.aload_n 1, 1) := dk_43 (dk_at dksJ31_init_0 5 rfl rfl)
theorem dJ31_init_6 : decode cJ31_init 6 = .ok (.putfield 13, 3) := dk_181 0 13 (dk_at dksJ31_init_0 6 rfl rfl)
theorem dJ31_init_9 : decode cJ31_init 9 = .ok (.return_, 1) := dk_177 (dk_at dksJ31_init_0 9 rfl rfl)
abbrev cJ31_empty : ByteArray := prog_93_method_1_code
def yJ31_empty : MethodName := ⟨RJ31, "empty", "()Ljava/util/Optional;"⟩
def dkwJ31_empty_0 : List UInt8 := [178, 0, 1, 75, 42, 176]
abbrev dktJ31_empty_0 : List UInt8 := dkwJ31_empty_0 ++ []
theorem dksJ31_empty_0 : cJ31_empty.data.toList.drop 0 = dktJ31_empty_0 := by decide +kernel
theorem dJ31_empty_0 : decode cJ31_empty 0 = .ok (.getstatic 1, 3) := dk_178 0 1 (dk_at dksJ31_empty_0 0 rfl rfl)
theorem dJ31_empty_3 : decode cJ31_empty 3 = .ok (.astore_n 0, 1) := dk_75 (dk_at dksJ31_empty_0 3 rfl rfl)
theorem dJ31_empty_4 : decode cJ31_empty 4 = .ok (.aload_n 0, 1) := dk_42 (dk_at dksJ31_empty_0 4 rfl rfl)
theorem dJ31_empty_5 : decode cJ31_empty 5 = .ok (.areturn, 1) := dk_176 (dk_at dksJ31_empty_0 5 rfl rfl)
abbrev cJ31_isPresent : ByteArray := prog_93_method_6_code
def yJ31_isPresent : MethodName := ⟨RJ31, "isPresent", "()Z"⟩
def dkwJ31_isPresent_0 : List UInt8 := [42, 180, 0, 13, 198, 0, 7, 4, 167, 0, 4, 3, 172]
abbrev dktJ31_isPresent_0 : List UInt8 := dkwJ31_isPresent_0 ++ []
theorem dksJ31_isPresent_0 : cJ31_isPresent.data.toList.drop 0 = dktJ31_isPresent_0 := by decide +kernel
theorem dJ31_isPresent_0 : decode cJ31_isPresent 0 = .ok (.aload_n 0, 1) := dk_42 (dk_at dksJ31_isPresent_0 0 rfl rfl)
theorem dJ31_isPresent_1 : decode cJ31_isPresent 1 = .ok (.getfield 13, 3) := dk_180 0 13 (dk_at dksJ31_isPresent_0 1 rfl rfl)
theorem dJ31_isPresent_4 : decode cJ31_isPresent 4 = .ok (.ifnull 7, 3) := dk_198 0 7 (dk_at dksJ31_isPresent_0 4 rfl rfl)
theorem dJ31_isPresent_7 : decode cJ31_isPresent 7 = .ok (.iconst 1, 1) := dk_4 (dk_at dksJ31_isPresent_0 7 rfl rfl)
theorem dJ31_isPresent_8 : decode cJ31_isPresent 8 = .ok (.goto 4, 3) := dk_167 0 4 (dk_at dksJ31_isPresent_0 8 rfl rfl)
theorem dJ31_isPresent_11 : decode cJ31_isPresent 11 = .ok (.iconst 0, 1) := dk_3 (dk_at dksJ31_isPresent_0 11 rfl rfl)
theorem dJ31_isPresent_12 : decode cJ31_isPresent 12 = .ok (.ireturn, 1) := dk_172 (dk_at dksJ31_isPresent_0 12 rfl rfl)
abbrev cJ31_get : ByteArray := prog_93_method_5_code
def yJ31_get : MethodName := ⟨RJ31, "get", "()Ljava/lang/Object;"⟩
def dkwJ31_get_0 : List UInt8 := [42, 180, 0, 13, 199, 0, 13, 187, 0, 26, 89, 18, 28, 183, 0, 30, 191, 42, 180, 0, 13, 176]
abbrev dktJ31_get_0 : List UInt8 := dkwJ31_get_0 ++ []
theorem dksJ31_get_0 : cJ31_get.data.toList.drop 0 = dktJ31_get_0 := by decide +kernel
theorem dJ31_get_0 : decode cJ31_get 0 = .ok (.aload_n 0, 1) := dk_42 (dk_at dksJ31_get_0 0 rfl rfl)
theorem dJ31_get_1 : decode cJ31_get 1 = .ok (.getfield 13, 3) := dk_180 0 13 (dk_at dksJ31_get_0 1 rfl rfl)
theorem dJ31_get_4 : decode cJ31_get 4 = .ok (.ifnonnull 13, 3) := dk_199 0 13 (dk_at dksJ31_get_0 4 rfl rfl)
theorem dJ31_get_7 : decode cJ31_get 7 = .ok (.new 26, 3) := dk_187 0 26 (dk_at dksJ31_get_0 7 rfl rfl)
theorem dJ31_get_10 : decode cJ31_get 10 = .ok (.dup, 1) := dk_89 (dk_at dksJ31_get_0 10 rfl rfl)
theorem dJ31_get_11 : decode cJ31_get 11 = .ok (.ldc 28, 2) := dk_18 28 (dk_at dksJ31_get_0 11 rfl rfl)
theorem dJ31_get_13 : decode cJ31_get 13 = .ok (.invokespecial 30, 3) := dk_183 0 30 (dk_at dksJ31_get_0 13 rfl rfl)
theorem dJ31_get_16 : decode cJ31_get 16 = .ok (.athrow, 1) := dk_191 (dk_at dksJ31_get_0 16 rfl rfl)
theorem dJ31_get_17 : decode cJ31_get 17 = .ok (.aload_n 0, 1) := dk_42 (dk_at dksJ31_get_0 17 rfl rfl)
theorem dJ31_get_18 : decode cJ31_get 18 = .ok (.getfield 13, 3) := dk_180 0 13 (dk_at dksJ31_get_0 18 rfl rfl)
theorem dJ31_get_21 : decode cJ31_get 21 = .ok (.areturn, 1) := dk_176 (dk_at dksJ31_get_0 21 rfl rfl)
theorem q164 : (Jvm.Cond.initialized "java/util/Optional") ∈ lw_all := lw_g (lw_at lw_m1 65 rfl) rfl
theorem q839 : (Jvm.Cond.selects "java/util/Optional" ({ cls := "java/lang/Object", name := "getClass", desc := "()Ljava/lang/Class;" } : Jvm.MethodName) ({ cls := "java/lang/Object", name := "getClass", desc := "()Ljava/lang/Class;" } : Jvm.MethodName)) ∈ lw_all := lw_g (lw_at lw_m4 20 rfl) rfl
theorem q2353 : (Jvm.Cond.static ({ cls := "java/util/Optional", name := "of", desc := "(Ljava/lang/Object;)Ljava/util/Optional;" } : Jvm.MethodName)) ∈ lw_all := lw_g (lw_at lw_m10 94 rfl) rfl
theorem q2354 : (Jvm.Cond.code ({ cls := "java/util/Optional", name := "of", desc := "(Ljava/lang/Object;)Ljava/util/Optional;" } : Jvm.MethodName) prog_93_method_3_code (1 : Nat) (Option.some (Jvm.ClassFile.FieldType.object "java/util/Optional"))) ∈ lw_all := lw_g (lw_at lw_m10 95 rfl) rfl
theorem q2355 : (Jvm.Cond.classLink "java/util/Optional" (2 : Nat) "java/util/Optional") ∈ lw_all := lw_g (lw_at lw_m10 96 rfl) rfl
theorem q2356 : (Jvm.Cond.instantiable "java/util/Optional" (1 : Nat)) ∈ lw_all := lw_g (lw_at lw_m10 97 rfl) rfl
theorem q2357 : (Jvm.Cond.methodLink "java/util/Optional" (17 : Nat) ({ cls := "java/util/Objects", name := "requireNonNull", desc := "(Ljava/lang/Object;)Ljava/lang/Object;" } : Jvm.MethodName)) ∈ lw_all := lw_g (lw_at lw_m10 98 rfl) rfl
theorem q2360 : (Jvm.Cond.methodLink "java/util/Optional" (23 : Nat) ({ cls := "java/util/Optional", name := "<init>", desc := "(Ljava/lang/Object;)V" } : Jvm.MethodName)) ∈ lw_all := lw_g (lw_at lw_m10 101 rfl) rfl
theorem q2361 : (Jvm.Cond.instanceMethod ({ cls := "java/util/Optional", name := "<init>", desc := "(Ljava/lang/Object;)V" } : Jvm.MethodName)) ∈ lw_all := lw_g (lw_at lw_m10 102 rfl) rfl
theorem q2362 : (Jvm.Cond.code ({ cls := "java/util/Optional", name := "<init>", desc := "(Ljava/lang/Object;)V" } : Jvm.MethodName) prog_93_method_2_code (2 : Nat) (Option.none : Option Jvm.ClassFile.FieldType)) ∈ lw_all := lw_g (lw_at lw_m10 103 rfl) rfl
theorem q2363 : (Jvm.Cond.methodLink "java/util/Optional" (7 : Nat) ({ cls := "java/lang/Object", name := "<init>", desc := "()V" } : Jvm.MethodName)) ∈ lw_all := lw_g (lw_at lw_m10 104 rfl) rfl
theorem q2364 : (Jvm.Cond.fieldLink "java/util/Optional" (13 : Nat) "java/util/Optional" "value" "Ljava/lang/Object;") ∈ lw_all := lw_g (lw_at lw_m10 105 rfl) rfl
theorem q2365 : (Jvm.Cond.laysFinal "java/util/Optional" "java/util/Optional" "value" "Ljava/lang/Object;") ∈ lw_all := lw_g (lw_at lw_m10 106 rfl) rfl
theorem q2366 : (Jvm.Cond.soleField "java/util/Optional" "value") ∈ lw_all := lw_g (lw_at lw_m10 107 rfl) rfl
theorem q2367 : (Jvm.Cond.superclass "java/util/Optional" "java/lang/Object") ∈ lw_all := lw_g (lw_at lw_m10 108 rfl) rfl
theorem q2369 : (Jvm.Cond.static ({ cls := "java/util/Optional", name := "empty", desc := "()Ljava/util/Optional;" } : Jvm.MethodName)) ∈ lw_all := lw_g (lw_at lw_m10 110 rfl) rfl
theorem q2370 : (Jvm.Cond.code ({ cls := "java/util/Optional", name := "empty", desc := "()Ljava/util/Optional;" } : Jvm.MethodName) prog_93_method_1_code (1 : Nat) (Option.some (Jvm.ClassFile.FieldType.object "java/util/Optional"))) ∈ lw_all := lw_g (lw_at lw_m10 111 rfl) rfl
theorem q2371 : (Jvm.Cond.fieldLink "java/util/Optional" (1 : Nat) "java/util/Optional" "EMPTY" "Ljava/util/Optional;") ∈ lw_all := lw_g (lw_at lw_m10 112 rfl) rfl
theorem q2372 : (Jvm.Cond.laysStatic "java/util/Optional" "EMPTY" "Ljava/util/Optional;") ∈ lw_tbl := lw_at lw_m10 113 rfl
theorem q2374 : (Jvm.Cond.instanceMethod ({ cls := "java/util/Optional", name := "isPresent", desc := "()Z" } : Jvm.MethodName)) ∈ lw_all := lw_g (lw_at lw_m10 115 rfl) rfl
theorem q2375 : (Jvm.Cond.selects "java/util/Optional" ({ cls := "java/util/Optional", name := "isPresent", desc := "()Z" } : Jvm.MethodName) ({ cls := "java/util/Optional", name := "isPresent", desc := "()Z" } : Jvm.MethodName)) ∈ lw_all := lw_g (lw_at lw_m10 116 rfl) rfl
theorem q2376 : (Jvm.Cond.code ({ cls := "java/util/Optional", name := "isPresent", desc := "()Z" } : Jvm.MethodName) prog_93_method_6_code (1 : Nat) (Option.some Jvm.ClassFile.FieldType.boolean)) ∈ lw_all := lw_g (lw_at lw_m10 117 rfl) rfl
theorem q2378 : (Jvm.Cond.instanceMethod ({ cls := "java/util/Optional", name := "get", desc := "()Ljava/lang/Object;" } : Jvm.MethodName)) ∈ lw_all := lw_g (lw_at lw_m10 119 rfl) rfl
theorem q2379 : (Jvm.Cond.selects "java/util/Optional" ({ cls := "java/util/Optional", name := "get", desc := "()Ljava/lang/Object;" } : Jvm.MethodName) ({ cls := "java/util/Optional", name := "get", desc := "()Ljava/lang/Object;" } : Jvm.MethodName)) ∈ lw_all := lw_g (lw_at lw_m10 120 rfl) rfl
theorem q2380 : (Jvm.Cond.code ({ cls := "java/util/Optional", name := "get", desc := "()Ljava/lang/Object;" } : Jvm.MethodName) prog_93_method_5_code (1 : Nat) (Option.some (Jvm.ClassFile.FieldType.object "java/lang/Object"))) ∈ lw_all := lw_g (lw_at lw_m10 121 rfl) rfl
theorem q3454 : (Jvm.Cond.castable "java/util/Optional" "java/lang/Object") ∈ lw_tbl := lw_at lw_m14 235 rfl
theorem in_J31 : ∀ w ∈ wsJ310, w ∈ lw_all := lw_in wsJ310 [2365] (by decide +kernel) (by decide +kernel)

/-! java/util/ArrayList$Itr -/
def RJ32 : String := "java/util/ArrayList$Itr"
def TJ32 : u_T := fun k => match k with
  | 0 => ("java/util/ArrayList$Itr", "cursor", "I", false)
  | 1 => ("java/util/ArrayList$Itr", "lastRet", "I", false)
  | 2 => ("java/util/ArrayList$Itr", "expectedModCount", "I", false)
  | _ => ("java/util/ArrayList$Itr", "this$0", "Ljava/util/ArrayList;", true)
def tyJ32 : Nat → FieldType := fun k => match k with
  | 0 => .int
  | 1 => .int
  | 2 => .int
  | _ => .object "java/util/ArrayList"
abbrev wsJ320 : List Cond := u_ws RJ32 TJ32 4
theorem nmJ32 : ∀ a, a < 4 → ∀ b, b < 4 → a ≠ b → (TJ32 a).2.1 ≠ (TJ32 b).2.1 := by decide +kernel
theorem tyJ32_ok : ∀ k, k < 4 → parseFieldDescriptor (TJ32 k).2.2.1 = some (tyJ32 k) := by decide +kernel
abbrev cJ32_init : ByteArray := prog_81_method_1_code
def yJ32_init : MethodName := ⟨RJ32, "<init>", "(Ljava/util/ArrayList;)V"⟩
def dkwJ32_init_1 : List UInt8 := [181, 0, 22, 177]
abbrev dktJ32_init_1 : List UInt8 := dkwJ32_init_1 ++ []
def dkwJ32_init_0 : List UInt8 := [42, 43, 181, 0, 1, 42, 183, 0, 7, 42, 2, 181, 0, 13, 42, 42, 180, 0, 1, 180, 0, 17]
abbrev dktJ32_init_0 : List UInt8 := dkwJ32_init_0 ++ dktJ32_init_1
theorem dksJ32_init_0 : cJ32_init.data.toList.drop 0 = dktJ32_init_0 := by decide +kernel
theorem dksJ32_init_1 : cJ32_init.data.toList.drop 22 = dktJ32_init_1 := dk_seg dksJ32_init_0 22 rfl rfl
theorem dJ32_init_0 : decode cJ32_init 0 = .ok (.aload_n 0, 1) := dk_42 (dk_at dksJ32_init_0 0 rfl rfl)
theorem dJ32_init_1 : decode cJ32_init 1 = .ok (.aload_n 1, 1) := dk_43 (dk_at dksJ32_init_0 1 rfl rfl)
theorem dJ32_init_2 : decode cJ32_init 2 = .ok (.putfield 1, 3) := dk_181 0 1 (dk_at dksJ32_init_0 2 rfl rfl)
theorem dJ32_init_5 : decode cJ32_init 5 = .ok (.aload_n 0, 1) := dk_42 (dk_at dksJ32_init_0 5 rfl rfl)
theorem dJ32_init_6 : decode cJ32_init 6 = .ok (.invokespecial 7, 3) := dk_183 0 7 (dk_at dksJ32_init_0 6 rfl rfl)
theorem dJ32_init_9 : decode cJ32_init 9 = .ok (.aload_n 0, 1) := dk_42 (dk_at dksJ32_init_0 9 rfl rfl)
theorem dJ32_init_10 : decode cJ32_init 10 = .ok (.iconst (-1), 1) := dk_2 (dk_at dksJ32_init_0 10 rfl rfl)
theorem dJ32_init_11 : decode cJ32_init 11 = .ok (.putfield 13, 3) := dk_181 0 13 (dk_at dksJ32_init_0 11 rfl rfl)
theorem dJ32_init_14 : decode cJ32_init 14 = .ok (.aload_n 0, 1) := dk_42 (dk_at dksJ32_init_0 14 rfl rfl)
theorem dJ32_init_15 : decode cJ32_init 15 = .ok (.aload_n 0, 1) := dk_42 (dk_at dksJ32_init_0 15 rfl rfl)
theorem dJ32_init_16 : decode cJ32_init 16 = .ok (.getfield 1, 3) := dk_180 0 1 (dk_at dksJ32_init_0 16 rfl rfl)
theorem dJ32_init_19 : decode cJ32_init 19 = .ok (.getfield 17, 3) := dk_180 0 17 (dk_at dksJ32_init_0 19 rfl rfl)
theorem dJ32_init_22 : decode cJ32_init 22 = .ok (.putfield 22, 3) := dk_181 0 22 (dk_at dksJ32_init_1 0 rfl rfl)
theorem dJ32_init_25 : decode cJ32_init 25 = .ok (.return_, 1) := dk_177 (dk_at dksJ32_init_1 3 rfl rfl)
abbrev cJ32_hasNext : ByteArray := prog_81_method_2_code
def yJ32_hasNext : MethodName := ⟨RJ32, "hasNext", "()Z"⟩
def dkwJ32_hasNext_0 : List UInt8 := [42, 180, 0, 25, 42, 180, 0, 1, 180, 0, 28, 159, 0, 7, 4, 167, 0, 4, 3, 172]
abbrev dktJ32_hasNext_0 : List UInt8 := dkwJ32_hasNext_0 ++ []
theorem dksJ32_hasNext_0 : cJ32_hasNext.data.toList.drop 0 = dktJ32_hasNext_0 := by decide +kernel
theorem dJ32_hasNext_0 : decode cJ32_hasNext 0 = .ok (.aload_n 0, 1) := dk_42 (dk_at dksJ32_hasNext_0 0 rfl rfl)
theorem dJ32_hasNext_1 : decode cJ32_hasNext 1 = .ok (.getfield 25, 3) := dk_180 0 25 (dk_at dksJ32_hasNext_0 1 rfl rfl)
theorem dJ32_hasNext_4 : decode cJ32_hasNext 4 = .ok (.aload_n 0, 1) := dk_42 (dk_at dksJ32_hasNext_0 4 rfl rfl)
theorem dJ32_hasNext_5 : decode cJ32_hasNext 5 = .ok (.getfield 1, 3) := dk_180 0 1 (dk_at dksJ32_hasNext_0 5 rfl rfl)
theorem dJ32_hasNext_8 : decode cJ32_hasNext 8 = .ok (.getfield 28, 3) := dk_180 0 28 (dk_at dksJ32_hasNext_0 8 rfl rfl)
theorem dJ32_hasNext_11 : decode cJ32_hasNext 11 = .ok (.if_icmp .eq 7, 3) := dk_159 0 7 (dk_at dksJ32_hasNext_0 11 rfl rfl)
theorem dJ32_hasNext_14 : decode cJ32_hasNext 14 = .ok (.iconst 1, 1) := dk_4 (dk_at dksJ32_hasNext_0 14 rfl rfl)
theorem dJ32_hasNext_15 : decode cJ32_hasNext 15 = .ok (.goto 4, 3) := dk_167 0 4 (dk_at dksJ32_hasNext_0 15 rfl rfl)
theorem dJ32_hasNext_18 : decode cJ32_hasNext 18 = .ok (.iconst 0, 1) := dk_3 (dk_at dksJ32_hasNext_0 18 rfl rfl)
theorem dJ32_hasNext_19 : decode cJ32_hasNext 19 = .ok (.ireturn, 1) := dk_172 (dk_at dksJ32_hasNext_0 19 rfl rfl)
abbrev cJ32_next : ByteArray := prog_81_method_3_code
def yJ32_next : MethodName := ⟨RJ32, "next", "()Ljava/lang/Object;"⟩
def dkwJ32_next_2 : List UInt8 := [183, 0, 43, 191, 42, 27, 4, 96, 181, 0, 25, 44, 42, 27, 90, 181, 0, 13, 50, 176]
abbrev dktJ32_next_2 : List UInt8 := dkwJ32_next_2 ++ []
def dkwJ32_next_1 : List UInt8 := [183, 0, 36, 191, 42, 180, 0, 1, 180, 0, 37, 77, 27, 44, 190, 161, 0, 11, 187, 0, 41, 89]
abbrev dktJ32_next_1 : List UInt8 := dkwJ32_next_1 ++ dktJ32_next_2
def dkwJ32_next_0 : List UInt8 := [42, 182, 0, 31, 42, 180, 0, 25, 60, 27, 42, 180, 0, 1, 180, 0, 28, 161, 0, 11, 187, 0, 34, 89]
abbrev dktJ32_next_0 : List UInt8 := dkwJ32_next_0 ++ dktJ32_next_1
theorem dksJ32_next_0 : cJ32_next.data.toList.drop 0 = dktJ32_next_0 := by decide +kernel
theorem dksJ32_next_1 : cJ32_next.data.toList.drop 24 = dktJ32_next_1 := dk_seg dksJ32_next_0 24 rfl rfl
theorem dksJ32_next_2 : cJ32_next.data.toList.drop 46 = dktJ32_next_2 := dk_seg dksJ32_next_1 22 rfl rfl
theorem dJ32_next_0 : decode cJ32_next 0 = .ok (.aload_n 0, 1) := dk_42 (dk_at dksJ32_next_0 0 rfl rfl)
theorem dJ32_next_1 : decode cJ32_next 1 = .ok (.invokevirtual 31, 3) := dk_182 0 31 (dk_at dksJ32_next_0 1 rfl rfl)
theorem dJ32_next_4 : decode cJ32_next 4 = .ok (.aload_n 0, 1) := dk_42 (dk_at dksJ32_next_0 4 rfl rfl)
theorem dJ32_next_5 : decode cJ32_next 5 = .ok (.getfield 25, 3) := dk_180 0 25 (dk_at dksJ32_next_0 5 rfl rfl)
theorem dJ32_next_8 : decode cJ32_next 8 = .ok (.istore_n 1, 1) := dk_60 (dk_at dksJ32_next_0 8 rfl rfl)
theorem dJ32_next_9 : decode cJ32_next 9 = .ok (.iload_n 1, 1) := dk_27 (dk_at dksJ32_next_0 9 rfl rfl)
theorem dJ32_next_10 : decode cJ32_next 10 = .ok (.aload_n 0, 1) := dk_42 (dk_at dksJ32_next_0 10 rfl rfl)
theorem dJ32_next_11 : decode cJ32_next 11 = .ok (.getfield 1, 3) := dk_180 0 1 (dk_at dksJ32_next_0 11 rfl rfl)
theorem dJ32_next_14 : decode cJ32_next 14 = .ok (.getfield 28, 3) := dk_180 0 28 (dk_at dksJ32_next_0 14 rfl rfl)
theorem dJ32_next_17 : decode cJ32_next 17 = .ok (.if_icmp .lt 11, 3) := dk_161 0 11 (dk_at dksJ32_next_0 17 rfl rfl)
theorem dJ32_next_20 : decode cJ32_next 20 = .ok (.new 34, 3) := dk_187 0 34 (dk_at dksJ32_next_0 20 rfl rfl)
theorem dJ32_next_23 : decode cJ32_next 23 = .ok (.dup, 1) := dk_89 (dk_at dksJ32_next_0 23 rfl rfl)
theorem dJ32_next_24 : decode cJ32_next 24 = .ok (.invokespecial 36, 3) := dk_183 0 36 (dk_at dksJ32_next_1 0 rfl rfl)
theorem dJ32_next_27 : decode cJ32_next 27 = .ok (.athrow, 1) := dk_191 (dk_at dksJ32_next_1 3 rfl rfl)
theorem dJ32_next_28 : decode cJ32_next 28 = .ok (.aload_n 0, 1) := dk_42 (dk_at dksJ32_next_1 4 rfl rfl)
theorem dJ32_next_29 : decode cJ32_next 29 = .ok (.getfield 1, 3) := dk_180 0 1 (dk_at dksJ32_next_1 5 rfl rfl)
theorem dJ32_next_32 : decode cJ32_next 32 = .ok (.getfield 37, 3) := dk_180 0 37 (dk_at dksJ32_next_1 8 rfl rfl)
theorem dJ32_next_35 : decode cJ32_next 35 = .ok (.astore_n 2, 1) := dk_77 (dk_at dksJ32_next_1 11 rfl rfl)
theorem dJ32_next_36 : decode cJ32_next 36 = .ok (.iload_n 1, 1) := dk_27 (dk_at dksJ32_next_1 12 rfl rfl)
theorem dJ32_next_37 : decode cJ32_next 37 = .ok (.aload_n 2, 1) := dk_44 (dk_at dksJ32_next_1 13 rfl rfl)
theorem dJ32_next_38 : decode cJ32_next 38 = .ok (.arraylength, 1) := dk_190 (dk_at dksJ32_next_1 14 rfl rfl)
theorem dJ32_next_39 : decode cJ32_next 39 = .ok (.if_icmp .lt 11, 3) := dk_161 0 11 (dk_at dksJ32_next_1 15 rfl rfl)
theorem dJ32_next_42 : decode cJ32_next 42 = .ok (.new 41, 3) := dk_187 0 41 (dk_at dksJ32_next_1 18 rfl rfl)
theorem dJ32_next_45 : decode cJ32_next 45 = .ok (.dup, 1) := dk_89 (dk_at dksJ32_next_1 21 rfl rfl)
theorem dJ32_next_46 : decode cJ32_next 46 = .ok (.invokespecial 43, 3) := dk_183 0 43 (dk_at dksJ32_next_2 0 rfl rfl)
theorem dJ32_next_49 : decode cJ32_next 49 = .ok (.athrow, 1) := dk_191 (dk_at dksJ32_next_2 3 rfl rfl)
theorem dJ32_next_50 : decode cJ32_next 50 = .ok (.aload_n 0, 1) := dk_42 (dk_at dksJ32_next_2 4 rfl rfl)
theorem dJ32_next_51 : decode cJ32_next 51 = .ok (.iload_n 1, 1) := dk_27 (dk_at dksJ32_next_2 5 rfl rfl)
theorem dJ32_next_52 : decode cJ32_next 52 = .ok (.iconst 1, 1) := dk_4 (dk_at dksJ32_next_2 6 rfl rfl)
theorem dJ32_next_53 : decode cJ32_next 53 = .ok (.iadd, 1) := dk_96 (dk_at dksJ32_next_2 7 rfl rfl)
theorem dJ32_next_54 : decode cJ32_next 54 = .ok (.putfield 25, 3) := dk_181 0 25 (dk_at dksJ32_next_2 8 rfl rfl)
theorem dJ32_next_57 : decode cJ32_next 57 = .ok (.aload_n 2, 1) := dk_44 (dk_at dksJ32_next_2 11 rfl rfl)
theorem dJ32_next_58 : decode cJ32_next 58 = .ok (.aload_n 0, 1) := dk_42 (dk_at dksJ32_next_2 12 rfl rfl)
theorem dJ32_next_59 : decode cJ32_next 59 = .ok (.iload_n 1, 1) := dk_27 (dk_at dksJ32_next_2 13 rfl rfl)
theorem dJ32_next_60 : decode cJ32_next 60 = .ok (.dup_x1, 1) := dk_90 (dk_at dksJ32_next_2 14 rfl rfl)
theorem dJ32_next_61 : decode cJ32_next 61 = .ok (.putfield 13, 3) := dk_181 0 13 (dk_at dksJ32_next_2 15 rfl rfl)
theorem dJ32_next_64 : decode cJ32_next 64 = .ok (.aaload, 1) := dk_50 (dk_at dksJ32_next_2 18 rfl rfl)
theorem dJ32_next_65 : decode cJ32_next 65 = .ok (.areturn, 1) := dk_176 (dk_at dksJ32_next_2 19 rfl rfl)
abbrev cJ32_checkForComodification : ByteArray := prog_81_method_6_code
def yJ32_checkForComodification : MethodName := ⟨RJ32, "checkForComodification", "()V"⟩
def dkwJ32_checkForComodification_0 : List UInt8 := [42, 180, 0, 1, 180, 0, 17, 42, 180, 0, 22, 159, 0, 11, 187, 0, 41, 89, 183, 0, 43, 191, 177]
abbrev dktJ32_checkForComodification_0 : List UInt8 := dkwJ32_checkForComodification_0 ++ []
theorem dksJ32_checkForComodification_0 : cJ32_checkForComodification.data.toList.drop 0 = dktJ32_checkForComodification_0 := by decide +kernel
theorem dJ32_checkForComodification_0 : decode cJ32_checkForComodification 0 = .ok (.aload_n 0, 1) := dk_42 (dk_at dksJ32_checkForComodification_0 0 rfl rfl)
theorem dJ32_checkForComodification_1 : decode cJ32_checkForComodification 1 = .ok (.getfield 1, 3) := dk_180 0 1 (dk_at dksJ32_checkForComodification_0 1 rfl rfl)
theorem dJ32_checkForComodification_4 : decode cJ32_checkForComodification 4 = .ok (.getfield 17, 3) := dk_180 0 17 (dk_at dksJ32_checkForComodification_0 4 rfl rfl)
theorem dJ32_checkForComodification_7 : decode cJ32_checkForComodification 7 = .ok (.aload_n 0, 1) := dk_42 (dk_at dksJ32_checkForComodification_0 7 rfl rfl)
theorem dJ32_checkForComodification_8 : decode cJ32_checkForComodification 8 = .ok (.getfield 22, 3) := dk_180 0 22 (dk_at dksJ32_checkForComodification_0 8 rfl rfl)
theorem dJ32_checkForComodification_11 : decode cJ32_checkForComodification 11 = .ok (.if_icmp .eq 11, 3) := dk_159 0 11 (dk_at dksJ32_checkForComodification_0 11 rfl rfl)
theorem dJ32_checkForComodification_14 : decode cJ32_checkForComodification 14 = .ok (.new 41, 3) := dk_187 0 41 (dk_at dksJ32_checkForComodification_0 14 rfl rfl)
theorem dJ32_checkForComodification_17 : decode cJ32_checkForComodification 17 = .ok (.dup, 1) := dk_89 (dk_at dksJ32_checkForComodification_0 17 rfl rfl)
theorem dJ32_checkForComodification_18 : decode cJ32_checkForComodification 18 = .ok (.invokespecial 43, 3) := dk_183 0 43 (dk_at dksJ32_checkForComodification_0 18 rfl rfl)
theorem dJ32_checkForComodification_21 : decode cJ32_checkForComodification 21 = .ok (.athrow, 1) := dk_191 (dk_at dksJ32_checkForComodification_0 21 rfl rfl)
theorem dJ32_checkForComodification_22 : decode cJ32_checkForComodification 22 = .ok (.return_, 1) := dk_177 (dk_at dksJ32_checkForComodification_0 22 rfl rfl)
theorem q165 : (Jvm.Cond.initialized "java/util/ArrayList$Itr") ∈ lw_all := lw_g (lw_at lw_m1 66 rfl) rfl
theorem q211 : (Jvm.Cond.fieldLink "java/util/ArrayList$Itr" (37 : Nat) "java/util/ArrayList" "elementData" "[Ljava/lang/Object;") ∈ lw_all := lw_g (lw_at lw_m1 112 rfl) rfl
theorem q212 : (Jvm.Cond.fieldLinkNest "java/util/ArrayList$Itr" (28 : Nat) "java/util/ArrayList" "size" "I" "java/util/ArrayList") ∈ lw_tbl := lw_at lw_m1 113 rfl
theorem q215 : (Jvm.Cond.fieldLink "java/util/ArrayList$Itr" (17 : Nat) "java/util/ArrayList" "modCount" "I") ∈ lw_all := lw_g (lw_at lw_m1 116 rfl) rfl
theorem q835 : (Jvm.Cond.selects "java/util/ArrayList$Itr" ({ cls := "java/lang/Object", name := "getClass", desc := "()Ljava/lang/Class;" } : Jvm.MethodName) ({ cls := "java/lang/Object", name := "getClass", desc := "()Ljava/lang/Class;" } : Jvm.MethodName)) ∈ lw_all := lw_g (lw_at lw_m4 16 rfl) rfl
theorem q2120 : (Jvm.Cond.instantiable "java/util/ArrayList$Itr" (4 : Nat)) ∈ lw_all := lw_g (lw_at lw_m9 101 rfl) rfl
theorem q2122 : (Jvm.Cond.instanceMethod ({ cls := "java/util/ArrayList$Itr", name := "<init>", desc := "(Ljava/util/ArrayList;)V" } : Jvm.MethodName)) ∈ lw_all := lw_g (lw_at lw_m9 103 rfl) rfl
theorem q2123 : (Jvm.Cond.code ({ cls := "java/util/ArrayList$Itr", name := "<init>", desc := "(Ljava/util/ArrayList;)V" } : Jvm.MethodName) prog_81_method_1_code (2 : Nat) (Option.none : Option Jvm.ClassFile.FieldType)) ∈ lw_all := lw_g (lw_at lw_m9 104 rfl) rfl
theorem q2124 : (Jvm.Cond.methodLink "java/util/ArrayList$Itr" (7 : Nat) ({ cls := "java/lang/Object", name := "<init>", desc := "()V" } : Jvm.MethodName)) ∈ lw_all := lw_g (lw_at lw_m9 105 rfl) rfl
theorem q2125 : (Jvm.Cond.fieldLink "java/util/ArrayList$Itr" (25 : Nat) "java/util/ArrayList$Itr" "cursor" "I") ∈ lw_all := lw_g (lw_at lw_m9 106 rfl) rfl
theorem q2126 : (Jvm.Cond.fieldLink "java/util/ArrayList$Itr" (13 : Nat) "java/util/ArrayList$Itr" "lastRet" "I") ∈ lw_all := lw_g (lw_at lw_m9 107 rfl) rfl
theorem q2127 : (Jvm.Cond.fieldLink "java/util/ArrayList$Itr" (22 : Nat) "java/util/ArrayList$Itr" "expectedModCount" "I") ∈ lw_all := lw_g (lw_at lw_m9 108 rfl) rfl
theorem q2128 : (Jvm.Cond.fieldLink "java/util/ArrayList$Itr" (1 : Nat) "java/util/ArrayList$Itr" "this$0" "Ljava/util/ArrayList;") ∈ lw_all := lw_g (lw_at lw_m9 109 rfl) rfl
theorem q2129 : (Jvm.Cond.lays "java/util/ArrayList$Itr" "java/util/ArrayList$Itr" "cursor" "I") ∈ lw_all := lw_g (lw_at lw_m9 110 rfl) rfl
theorem q2130 : (Jvm.Cond.soleField "java/util/ArrayList$Itr" "cursor") ∈ lw_all := lw_g (lw_at lw_m9 111 rfl) rfl
theorem q2131 : (Jvm.Cond.lays "java/util/ArrayList$Itr" "java/util/ArrayList$Itr" "lastRet" "I") ∈ lw_all := lw_g (lw_at lw_m9 112 rfl) rfl
theorem q2132 : (Jvm.Cond.soleField "java/util/ArrayList$Itr" "lastRet") ∈ lw_all := lw_g (lw_at lw_m9 113 rfl) rfl
theorem q2133 : (Jvm.Cond.lays "java/util/ArrayList$Itr" "java/util/ArrayList$Itr" "expectedModCount" "I") ∈ lw_all := lw_g (lw_at lw_m9 114 rfl) rfl
theorem q2134 : (Jvm.Cond.soleField "java/util/ArrayList$Itr" "expectedModCount") ∈ lw_all := lw_g (lw_at lw_m9 115 rfl) rfl
theorem q2135 : (Jvm.Cond.laysFinal "java/util/ArrayList$Itr" "java/util/ArrayList$Itr" "this$0" "Ljava/util/ArrayList;") ∈ lw_all := lw_g (lw_at lw_m9 116 rfl) rfl
theorem q2136 : (Jvm.Cond.soleField "java/util/ArrayList$Itr" "this$0") ∈ lw_all := lw_g (lw_at lw_m9 117 rfl) rfl
theorem q2137 : (Jvm.Cond.superclass "java/util/ArrayList$Itr" "java/lang/Object") ∈ lw_all := lw_g (lw_at lw_m9 118 rfl) rfl
theorem q2142 : (Jvm.Cond.castable "java/util/ArrayList$Itr" "java/util/Iterator") ∈ lw_tbl := lw_at lw_m9 123 rfl
theorem q2143 : (Jvm.Cond.selects "java/util/ArrayList$Itr" ({ cls := "java/util/Iterator", name := "hasNext", desc := "()Z" } : Jvm.MethodName) ({ cls := "java/util/ArrayList$Itr", name := "hasNext", desc := "()Z" } : Jvm.MethodName)) ∈ lw_all := lw_g (lw_at lw_m9 124 rfl) rfl
theorem q2144 : (Jvm.Cond.unhidden "java/util/ArrayList$Itr" "hasNext" "()Z") ∈ lw_tbl := lw_at lw_m9 125 rfl
theorem q2145 : (Jvm.Cond.instanceMethod ({ cls := "java/util/ArrayList$Itr", name := "hasNext", desc := "()Z" } : Jvm.MethodName)) ∈ lw_all := lw_g (lw_at lw_m9 126 rfl) rfl
theorem q2146 : (Jvm.Cond.publicMethod ({ cls := "java/util/ArrayList$Itr", name := "hasNext", desc := "()Z" } : Jvm.MethodName)) ∈ lw_tbl := lw_at lw_m9 127 rfl
theorem q2147 : (Jvm.Cond.code ({ cls := "java/util/ArrayList$Itr", name := "hasNext", desc := "()Z" } : Jvm.MethodName) prog_81_method_2_code (1 : Nat) (Option.some Jvm.ClassFile.FieldType.boolean)) ∈ lw_all := lw_g (lw_at lw_m9 128 rfl) rfl
theorem q2152 : (Jvm.Cond.selects "java/util/ArrayList$Itr" ({ cls := "java/util/Iterator", name := "next", desc := "()Ljava/lang/Object;" } : Jvm.MethodName) ({ cls := "java/util/ArrayList$Itr", name := "next", desc := "()Ljava/lang/Object;" } : Jvm.MethodName)) ∈ lw_all := lw_g (lw_at lw_m9 133 rfl) rfl
theorem q2153 : (Jvm.Cond.unhidden "java/util/ArrayList$Itr" "next" "()Ljava/lang/Object;") ∈ lw_tbl := lw_at lw_m9 134 rfl
theorem q2154 : (Jvm.Cond.instanceMethod ({ cls := "java/util/ArrayList$Itr", name := "next", desc := "()Ljava/lang/Object;" } : Jvm.MethodName)) ∈ lw_all := lw_g (lw_at lw_m9 135 rfl) rfl
theorem q2155 : (Jvm.Cond.publicMethod ({ cls := "java/util/ArrayList$Itr", name := "next", desc := "()Ljava/lang/Object;" } : Jvm.MethodName)) ∈ lw_tbl := lw_at lw_m9 136 rfl
theorem q2156 : (Jvm.Cond.code ({ cls := "java/util/ArrayList$Itr", name := "next", desc := "()Ljava/lang/Object;" } : Jvm.MethodName) prog_81_method_3_code (3 : Nat) (Option.some (Jvm.ClassFile.FieldType.object "java/lang/Object"))) ∈ lw_all := lw_g (lw_at lw_m9 137 rfl) rfl
theorem q2157 : (Jvm.Cond.methodLink "java/util/ArrayList$Itr" (31 : Nat) ({ cls := "java/util/ArrayList$Itr", name := "checkForComodification", desc := "()V" } : Jvm.MethodName)) ∈ lw_all := lw_g (lw_at lw_m9 138 rfl) rfl
theorem q2158 : (Jvm.Cond.instanceMethod ({ cls := "java/util/ArrayList$Itr", name := "checkForComodification", desc := "()V" } : Jvm.MethodName)) ∈ lw_all := lw_g (lw_at lw_m9 139 rfl) rfl
theorem q2159 : (Jvm.Cond.selects "java/util/ArrayList$Itr" ({ cls := "java/util/ArrayList$Itr", name := "checkForComodification", desc := "()V" } : Jvm.MethodName) ({ cls := "java/util/ArrayList$Itr", name := "checkForComodification", desc := "()V" } : Jvm.MethodName)) ∈ lw_all := lw_g (lw_at lw_m9 140 rfl) rfl
theorem q2160 : (Jvm.Cond.code ({ cls := "java/util/ArrayList$Itr", name := "checkForComodification", desc := "()V" } : Jvm.MethodName) prog_81_method_6_code (1 : Nat) (Option.none : Option Jvm.ClassFile.FieldType)) ∈ lw_all := lw_g (lw_at lw_m9 141 rfl) rfl
theorem q3455 : (Jvm.Cond.castable "java/util/ArrayList$Itr" "java/lang/Object") ∈ lw_tbl := lw_at lw_m14 236 rfl
theorem in_J32 : ∀ w ∈ wsJ320, w ∈ lw_all := lw_in wsJ320 [2129, 2131, 2133, 2135] (by decide +kernel) (by decide +kernel)

/-! java/lang/Object -/
def RJ33 : String := "java/lang/Object"
abbrev cJ33_init : ByteArray := object_method_1_code
def yJ33_init : MethodName := ⟨RJ33, "<init>", "()V"⟩
theorem dJ33_init_0 : decode cJ33_init 0 = .ok (.return_, 1) := by decide +kernel
abbrev cJ33_equals : ByteArray := object_method_4_code
def yJ33_equals : MethodName := ⟨RJ33, "equals", "(Ljava/lang/Object;)Z"⟩
def dkwJ33_equals_0 : List UInt8 := [42, 43, 166, 0, 7, 4, 167, 0, 4, 3, 172]
abbrev dktJ33_equals_0 : List UInt8 := dkwJ33_equals_0 ++ []
theorem dksJ33_equals_0 : cJ33_equals.data.toList.drop 0 = dktJ33_equals_0 := by decide +kernel
theorem dJ33_equals_0 : decode cJ33_equals 0 = .ok (.aload_n 0, 1) := dk_42 (dk_at dksJ33_equals_0 0 rfl rfl)
theorem dJ33_equals_1 : decode cJ33_equals 1 = .ok (.aload_n 1, 1) := dk_43 (dk_at dksJ33_equals_0 1 rfl rfl)
theorem dJ33_equals_2 : decode cJ33_equals 2 = .ok (.if_acmp .ne 7, 3) := dk_166 0 7 (dk_at dksJ33_equals_0 2 rfl rfl)
theorem dJ33_equals_5 : decode cJ33_equals 5 = .ok (.iconst 1, 1) := dk_4 (dk_at dksJ33_equals_0 5 rfl rfl)
theorem dJ33_equals_6 : decode cJ33_equals 6 = .ok (.goto 4, 3) := dk_167 0 4 (dk_at dksJ33_equals_0 6 rfl rfl)
theorem dJ33_equals_9 : decode cJ33_equals 9 = .ok (.iconst 0, 1) := dk_3 (dk_at dksJ33_equals_0 9 rfl rfl)
theorem dJ33_equals_10 : decode cJ33_equals 10 = .ok (.ireturn, 1) := dk_172 (dk_at dksJ33_equals_0 10 rfl rfl)
theorem q172 : (Jvm.Cond.instanceMethod ({ cls := "java/lang/Object", name := "<init>", desc := "()V" } : Jvm.MethodName)) ∈ lw_all := lw_g (lw_at lw_m1 73 rfl) rfl
theorem q173 : (Jvm.Cond.code ({ cls := "java/lang/Object", name := "<init>", desc := "()V" } : Jvm.MethodName) object_method_1_code (1 : Nat) (Option.none : Option Jvm.ClassFile.FieldType)) ∈ lw_all := lw_g (lw_at lw_m1 74 rfl) rfl
theorem q419 : (Jvm.Cond.native ({ cls := "java/lang/Object", name := "clone", desc := "()Ljava/lang/Object;" } : Jvm.MethodName)) ∈ lw_all := lw_g (lw_at lw_m2 80 rfl) rfl
theorem q420 : (Jvm.Cond.instanceMethod ({ cls := "java/lang/Object", name := "clone", desc := "()Ljava/lang/Object;" } : Jvm.MethodName)) ∈ lw_all := lw_g (lw_at lw_m2 81 rfl) rfl
theorem q783 : (Jvm.Cond.instanceMethod ({ cls := "java/lang/Object", name := "getClass", desc := "()Ljava/lang/Class;" } : Jvm.MethodName)) ∈ lw_all := lw_g (lw_at lw_m3 204 rfl) rfl
theorem q784 : (Jvm.Cond.sameMethod "java/lang/Object" "java/lang/Object" "getClass" "()Ljava/lang/Class;") ∈ lw_all := lw_g (lw_at lw_m3 205 rfl) rfl
theorem q841 : (Jvm.Cond.native ({ cls := "java/lang/Object", name := "getClass", desc := "()Ljava/lang/Class;" } : Jvm.MethodName)) ∈ lw_all := lw_g (lw_at lw_m4 22 rfl) rfl
theorem q1039 : (Jvm.Cond.declares ({ cls := "java/lang/Object", name := "hashCode", desc := "()I" } : Jvm.MethodName)) ∈ lw_tbl := lw_at lw_m4 220 rfl
theorem q1041 : (Jvm.Cond.instanceMethod ({ cls := "java/lang/Object", name := "hashCode", desc := "()I" } : Jvm.MethodName)) ∈ lw_all := lw_g (lw_at lw_m4 222 rfl) rfl
theorem q1042 : (Jvm.Cond.sameMethod "java/lang/Object" "java/lang/Object" "hashCode" "()I") ∈ lw_all := lw_g (lw_at lw_m4 223 rfl) rfl
theorem q1158 : (Jvm.Cond.native ({ cls := "java/lang/Object", name := "hashCode", desc := "()I" } : Jvm.MethodName)) ∈ lw_all := lw_g (lw_at lw_m5 99 rfl) rfl
theorem q1159 : (Jvm.Cond.declares ({ cls := "java/lang/Object", name := "equals", desc := "(Ljava/lang/Object;)Z" } : Jvm.MethodName)) ∈ lw_tbl := lw_at lw_m5 100 rfl
theorem q1161 : (Jvm.Cond.instanceMethod ({ cls := "java/lang/Object", name := "equals", desc := "(Ljava/lang/Object;)Z" } : Jvm.MethodName)) ∈ lw_all := lw_g (lw_at lw_m5 102 rfl) rfl
theorem q1162 : (Jvm.Cond.sameMethod "java/lang/Object" "java/lang/Object" "equals" "(Ljava/lang/Object;)Z") ∈ lw_all := lw_g (lw_at lw_m5 103 rfl) rfl
theorem q1222 : (Jvm.Cond.code ({ cls := "java/lang/Object", name := "equals", desc := "(Ljava/lang/Object;)Z" } : Jvm.MethodName) object_method_4_code (2 : Nat) (Option.some Jvm.ClassFile.FieldType.boolean)) ∈ lw_all := lw_g (lw_at lw_m5 163 rfl) rfl
theorem q3378 : (Jvm.Cond.initialized "java/lang/Object") ∈ lw_all := lw_g (lw_at lw_m14 159 rfl) rfl
theorem q3460 : (Jvm.Cond.declares ({ cls := "java/lang/Object", name := "getClass", desc := "()Ljava/lang/Class;" } : Jvm.MethodName)) ∈ lw_tbl := lw_at lw_m15 1 rfl

