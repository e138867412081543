set_option maxRecDepth 100000
theorem q144 : (Jvm.Cond.initialized "RingDomino$Craft") ∈ lw_all := lw_g (lw_at lw_m1 45 rfl) rfl
theorem q1734 : (Jvm.Cond.laysStatic "RingDomino$Craft" "ALL" "[LRingDomino$Craft;") ∈ lw_tbl := lw_at lw_m7 195 rfl
theorem q1760 : (Jvm.Cond.laysStatic "RingDomino$Craft" "PUT" "LRingDomino$Craft;") ∈ lw_tbl := lw_at lw_m7 221 rfl
theorem q2302 : (Jvm.Cond.declares ({ cls := "RingDomino$Craft", name := "carry", desc := "(LRingDomino$Game;LRingDomino$Order;)Z" } : Jvm.MethodName)) ∈ lw_tbl := lw_at lw_m10 43 rfl
theorem q2303 : (Jvm.Cond.sameMethod "RingDomino$Craft" "RingDomino$Craft" "carry" "(LRingDomino$Game;LRingDomino$Order;)Z") ∈ lw_all := lw_g (lw_at lw_m10 44 rfl) rfl
theorem q3400 : (Jvm.Cond.castable "RingDomino$Craft" "java/lang/Object") ∈ lw_tbl := lw_at lw_m14 181 rfl
theorem q3504 : (Jvm.Cond.laysStatic "RingDomino$Craft" "TAKE" "LRingDomino$Craft;") ∈ lw_tbl := lw_at lw_m15 45 rfl
theorem q3505 : (Jvm.Cond.laysStatic "RingDomino$Craft" "FIT" "LRingDomino$Craft;") ∈ lw_tbl := lw_at lw_m15 46 rfl
theorem q3506 : (Jvm.Cond.stringRef "RingDomino$Craft" (39 : Nat) "put") ∈ lw_tbl := lw_at lw_m15 47 rfl
theorem q3544 : (Jvm.Cond.stringRef "RingDomino$Craft" (47 : Nat) "take") ∈ lw_tbl := lw_at lw_m15 85 rfl
theorem q3545 : (Jvm.Cond.stringRef "RingDomino$Craft" (53 : Nat) "fit") ∈ lw_tbl := lw_at lw_m15 86 rfl

theorem q149 : (Jvm.Cond.initialized "RingDomino$Kind") ∈ lw_all := lw_g (lw_at lw_m1 50 rfl) rfl
theorem q796 : (Jvm.Cond.selects "RingDomino$Kind" ({ cls := "java/lang/Object", name := "getClass", desc := "()Ljava/lang/Class;" } : Jvm.MethodName) ({ cls := "java/lang/Object", name := "getClass", desc := "()Ljava/lang/Class;" } : Jvm.MethodName)) ∈ lw_all := lw_g (lw_at lw_m3 217 rfl) rfl
theorem q1059 : (Jvm.Cond.selects "RingDomino$Kind" ({ cls := "java/lang/Object", name := "hashCode", desc := "()I" } : Jvm.MethodName) ({ cls := "java/lang/Enum", name := "hashCode", desc := "()I" } : Jvm.MethodName)) ∈ lw_all := lw_g (lw_at lw_m5 0 rfl) rfl
theorem q1176 : (Jvm.Cond.selects "RingDomino$Kind" ({ cls := "java/lang/Object", name := "equals", desc := "(Ljava/lang/Object;)Z" } : Jvm.MethodName) ({ cls := "java/lang/Enum", name := "equals", desc := "(Ljava/lang/Object;)Z" } : Jvm.MethodName)) ∈ lw_all := lw_g (lw_at lw_m5 117 rfl) rfl
theorem q1263 : (Jvm.Cond.selects "RingDomino$Kind" ({ cls := "java/lang/Enum", name := "compareTo", desc := "(Ljava/lang/Enum;)I" } : Jvm.MethodName) ({ cls := "java/lang/Enum", name := "compareTo", desc := "(Ljava/lang/Enum;)I" } : Jvm.MethodName)) ∈ lw_all := lw_g (lw_at lw_m5 204 rfl) rfl
theorem q1286 : (Jvm.Cond.selects "RingDomino$Kind" ({ cls := "java/lang/Enum", name := "getDeclaringClass", desc := "()Ljava/lang/Class;" } : Jvm.MethodName) ({ cls := "java/lang/Enum", name := "getDeclaringClass", desc := "()Ljava/lang/Class;" } : Jvm.MethodName)) ∈ lw_all := lw_g (lw_at lw_m5 227 rfl) rfl
theorem q1308 : (Jvm.Cond.castable "RingDomino$Kind" "java/lang/Comparable") ∈ lw_tbl := lw_at lw_m6 9 rfl
theorem q1309 : (Jvm.Cond.selects "RingDomino$Kind" ({ cls := "java/lang/Comparable", name := "compareTo", desc := "(Ljava/lang/Object;)I" } : Jvm.MethodName) ({ cls := "java/lang/Enum", name := "compareTo", desc := "(Ljava/lang/Object;)I" } : Jvm.MethodName)) ∈ lw_all := lw_g (lw_at lw_m6 10 rfl) rfl
theorem q1310 : (Jvm.Cond.unhidden "RingDomino$Kind" "compareTo" "(Ljava/lang/Object;)I") ∈ lw_tbl := lw_at lw_m6 11 rfl
theorem q1783 : (Jvm.Cond.laysStatic "RingDomino$Kind" "NOTHING" "LRingDomino$Kind;") ∈ lw_tbl := lw_at lw_m8 4 rfl
theorem q3383 : (Jvm.Cond.castable "RingDomino$Kind" "java/lang/Enum") ∈ lw_tbl := lw_at lw_m14 164 rfl
theorem q3435 : (Jvm.Cond.castable "RingDomino$Kind" "java/lang/Object") ∈ lw_tbl := lw_at lw_m14 216 rfl
theorem q3553 : (Jvm.Cond.laysStatic "RingDomino$Kind" "TILE" "LRingDomino$Kind;") ∈ lw_tbl := lw_at lw_m15 94 rfl

theorem q151 : (Jvm.Cond.initialized "RingDomino$Sign") ∈ lw_all := lw_g (lw_at lw_m1 52 rfl) rfl
theorem q1812 : (Jvm.Cond.laysStatic "RingDomino$Sign" "LEAST" "LRingDomino$Sign;") ∈ lw_tbl := lw_at lw_m8 33 rfl
theorem q1814 : (Jvm.Cond.laysStatic "RingDomino$Sign" "MOST_OF" "LRingDomino$Sign;") ∈ lw_tbl := lw_at lw_m8 35 rfl
theorem q1841 : (Jvm.Cond.laysStatic "RingDomino$Sign" "TIMES" "LRingDomino$Sign;") ∈ lw_tbl := lw_at lw_m8 62 rfl
theorem q1843 : (Jvm.Cond.laysStatic "RingDomino$Sign" "PARTED" "LRingDomino$Sign;") ∈ lw_tbl := lw_at lw_m8 64 rfl
theorem q1846 : (Jvm.Cond.laysStatic "RingDomino$Sign" "PLUS" "LRingDomino$Sign;") ∈ lw_tbl := lw_at lw_m8 67 rfl
theorem q1848 : (Jvm.Cond.laysStatic "RingDomino$Sign" "MINUS" "LRingDomino$Sign;") ∈ lw_tbl := lw_at lw_m8 69 rfl
theorem q2235 : (Jvm.Cond.declares ({ cls := "RingDomino$Sign", name := "join", desc := "(II)I" } : Jvm.MethodName)) ∈ lw_tbl := lw_at lw_m9 216 rfl
theorem q2236 : (Jvm.Cond.sameMethod "RingDomino$Sign" "RingDomino$Sign" "join" "(II)I") ∈ lw_all := lw_g (lw_at lw_m9 217 rfl) rfl
theorem q3461 : (Jvm.Cond.castable "RingDomino$Sign" "java/lang/Object") ∈ lw_tbl := lw_at lw_m15 2 rfl
theorem q3514 : (Jvm.Cond.stringRef "RingDomino$Sign" (74 : Nat) "min") ∈ lw_tbl := lw_at lw_m15 55 rfl
theorem q3515 : (Jvm.Cond.stringRef "RingDomino$Sign" (80 : Nat) "max") ∈ lw_tbl := lw_at lw_m15 56 rfl
theorem q3516 : (Jvm.Cond.stringRef "RingDomino$Sign" (62 : Nat) "*") ∈ lw_tbl := lw_at lw_m15 57 rfl
theorem q3517 : (Jvm.Cond.stringRef "RingDomino$Sign" (68 : Nat) "/") ∈ lw_tbl := lw_at lw_m15 58 rfl
theorem q3518 : (Jvm.Cond.stringRef "RingDomino$Sign" (48 : Nat) "+") ∈ lw_tbl := lw_at lw_m15 59 rfl
theorem q3519 : (Jvm.Cond.stringRef "RingDomino$Sign" (56 : Nat) "-") ∈ lw_tbl := lw_at lw_m15 60 rfl

theorem q118 : (Jvm.Cond.initialized "RingDomino$Sort") ∈ lw_all := lw_g (lw_at lw_m1 19 rfl) rfl
theorem q325 : (Jvm.Cond.laysStatic "RingDomino$Sort" "BAD" "LRingDomino$Sort;") ∈ lw_tbl := lw_at lw_m1 226 rfl
theorem q704 : (Jvm.Cond.laysStatic "RingDomino$Sort" "KEY" "LRingDomino$Sort;") ∈ lw_tbl := lw_at lw_m3 125 rfl
theorem q706 : (Jvm.Cond.laysStatic "RingDomino$Sort" "NAME" "LRingDomino$Sort;") ∈ lw_tbl := lw_at lw_m3 127 rfl
theorem q708 : (Jvm.Cond.laysStatic "RingDomino$Sort" "NUMBER" "LRingDomino$Sort;") ∈ lw_tbl := lw_at lw_m3 129 rfl
theorem q761 : (Jvm.Cond.laysStatic "RingDomino$Sort" "SYMBOL" "LRingDomino$Sort;") ∈ lw_tbl := lw_at lw_m3 182 rfl
theorem q809 : (Jvm.Cond.selects "RingDomino$Sort" ({ cls := "java/lang/Object", name := "getClass", desc := "()Ljava/lang/Class;" } : Jvm.MethodName) ({ cls := "java/lang/Object", name := "getClass", desc := "()Ljava/lang/Class;" } : Jvm.MethodName)) ∈ lw_all := lw_g (lw_at lw_m3 230 rfl) rfl
theorem q851 : (Jvm.Cond.laysStatic "RingDomino$Sort" "END" "LRingDomino$Sort;") ∈ lw_tbl := lw_at lw_m4 32 rfl
theorem q1072 : (Jvm.Cond.selects "RingDomino$Sort" ({ cls := "java/lang/Object", name := "hashCode", desc := "()I" } : Jvm.MethodName) ({ cls := "java/lang/Enum", name := "hashCode", desc := "()I" } : Jvm.MethodName)) ∈ lw_all := lw_g (lw_at lw_m5 13 rfl) rfl
theorem q1189 : (Jvm.Cond.selects "RingDomino$Sort" ({ cls := "java/lang/Object", name := "equals", desc := "(Ljava/lang/Object;)Z" } : Jvm.MethodName) ({ cls := "java/lang/Enum", name := "equals", desc := "(Ljava/lang/Object;)Z" } : Jvm.MethodName)) ∈ lw_all := lw_g (lw_at lw_m5 130 rfl) rfl
theorem q1270 : (Jvm.Cond.selects "RingDomino$Sort" ({ cls := "java/lang/Enum", name := "compareTo", desc := "(Ljava/lang/Enum;)I" } : Jvm.MethodName) ({ cls := "java/lang/Enum", name := "compareTo", desc := "(Ljava/lang/Enum;)I" } : Jvm.MethodName)) ∈ lw_all := lw_g (lw_at lw_m5 211 rfl) rfl
theorem q1293 : (Jvm.Cond.selects "RingDomino$Sort" ({ cls := "java/lang/Enum", name := "getDeclaringClass", desc := "()Ljava/lang/Class;" } : Jvm.MethodName) ({ cls := "java/lang/Enum", name := "getDeclaringClass", desc := "()Ljava/lang/Class;" } : Jvm.MethodName)) ∈ lw_all := lw_g (lw_at lw_m5 234 rfl) rfl
theorem q1329 : (Jvm.Cond.castable "RingDomino$Sort" "java/lang/Comparable") ∈ lw_tbl := lw_at lw_m6 30 rfl
theorem q1330 : (Jvm.Cond.selects "RingDomino$Sort" ({ cls := "java/lang/Comparable", name := "compareTo", desc := "(Ljava/lang/Object;)I" } : Jvm.MethodName) ({ cls := "java/lang/Enum", name := "compareTo", desc := "(Ljava/lang/Object;)I" } : Jvm.MethodName)) ∈ lw_all := lw_g (lw_at lw_m6 31 rfl) rfl
theorem q1331 : (Jvm.Cond.unhidden "RingDomino$Sort" "compareTo" "(Ljava/lang/Object;)I") ∈ lw_tbl := lw_at lw_m6 32 rfl
theorem q3390 : (Jvm.Cond.castable "RingDomino$Sort" "java/lang/Enum") ∈ lw_tbl := lw_at lw_m14 171 rfl
theorem q3414 : (Jvm.Cond.castable "RingDomino$Sort" "java/lang/Object") ∈ lw_tbl := lw_at lw_m14 195 rfl

theorem q147 : (Jvm.Cond.initialized "RingDomino$What") ∈ lw_all := lw_g (lw_at lw_m1 48 rfl) rfl
theorem q1775 : (Jvm.Cond.laysStatic "RingDomino$What" "ALL" "[LRingDomino$What;") ∈ lw_tbl := lw_at lw_m7 236 rfl
theorem q2179 : (Jvm.Cond.declares ({ cls := "RingDomino$What", name := "of", desc := "(LRingDomino$Game;I)I" } : Jvm.MethodName)) ∈ lw_tbl := lw_at lw_m9 160 rfl
theorem q2180 : (Jvm.Cond.sameMethod "RingDomino$What" "RingDomino$What" "of" "(LRingDomino$Game;I)I") ∈ lw_all := lw_g (lw_at lw_m9 161 rfl) rfl
theorem q3401 : (Jvm.Cond.castable "RingDomino$What" "java/lang/Object") ∈ lw_tbl := lw_at lw_m14 182 rfl
theorem q3507 : (Jvm.Cond.laysStatic "RingDomino$What" "ROUND" "LRingDomino$What;") ∈ lw_tbl := lw_at lw_m15 48 rfl
theorem q3508 : (Jvm.Cond.laysStatic "RingDomino$What" "PLACED" "LRingDomino$What;") ∈ lw_tbl := lw_at lw_m15 49 rfl
theorem q3509 : (Jvm.Cond.laysStatic "RingDomino$What" "MATCHES" "LRingDomino$What;") ∈ lw_tbl := lw_at lw_m15 50 rfl
theorem q3510 : (Jvm.Cond.laysStatic "RingDomino$What" "POINTS" "LRingDomino$What;") ∈ lw_tbl := lw_at lw_m15 51 rfl
theorem q3511 : (Jvm.Cond.laysStatic "RingDomino$What" "RINGS" "LRingDomino$What;") ∈ lw_tbl := lw_at lw_m15 52 rfl
theorem q3512 : (Jvm.Cond.laysStatic "RingDomino$What" "FREE" "LRingDomino$What;") ∈ lw_tbl := lw_at lw_m15 53 rfl
theorem q3513 : (Jvm.Cond.laysStatic "RingDomino$What" "WAYS" "LRingDomino$What;") ∈ lw_tbl := lw_at lw_m15 54 rfl
theorem q3546 : (Jvm.Cond.stringRef "RingDomino$What" (55 : Nat) "round") ∈ lw_tbl := lw_at lw_m15 87 rfl
theorem q3547 : (Jvm.Cond.stringRef "RingDomino$What" (68 : Nat) "placed") ∈ lw_tbl := lw_at lw_m15 88 rfl
theorem q3548 : (Jvm.Cond.stringRef "RingDomino$What" (74 : Nat) "matches") ∈ lw_tbl := lw_at lw_m15 89 rfl
theorem q3549 : (Jvm.Cond.stringRef "RingDomino$What" (80 : Nat) "points") ∈ lw_tbl := lw_at lw_m15 90 rfl
theorem q3550 : (Jvm.Cond.stringRef "RingDomino$What" (86 : Nat) "rings") ∈ lw_tbl := lw_at lw_m15 91 rfl
theorem q3551 : (Jvm.Cond.stringRef "RingDomino$What" (92 : Nat) "free") ∈ lw_tbl := lw_at lw_m15 92 rfl
theorem q3552 : (Jvm.Cond.stringRef "RingDomino$What" (98 : Nat) "ways") ∈ lw_tbl := lw_at lw_m15 93 rfl

theorem q418 : (Jvm.Cond.sameMethod "[B" "java/lang/Object" "clone" "()Ljava/lang/Object;") ∈ lw_all := lw_g (lw_at lw_m2 79 rfl) rfl
theorem q421 : (Jvm.Cond.selects "[B" ({ cls := "[B", name := "clone", desc := "()Ljava/lang/Object;" } : Jvm.MethodName) ({ cls := "java/lang/Object", name := "clone", desc := "()Ljava/lang/Object;" } : Jvm.MethodName)) ∈ lw_all := lw_g (lw_at lw_m2 82 rfl) rfl
theorem q422 : (Jvm.Cond.castable "[B" "java/lang/Cloneable") ∈ lw_tbl := lw_at lw_m2 83 rfl
theorem q3462 : (Jvm.Cond.castable "[B" "java/lang/Object") ∈ lw_tbl := lw_at lw_m15 3 rfl

theorem q3463 : (Jvm.Cond.castable "[I" "java/lang/Object") ∈ lw_tbl := lw_at lw_m15 4 rfl

theorem q3467 : (Jvm.Cond.castable "[J" "java/lang/Object") ∈ lw_tbl := lw_at lw_m15 8 rfl

theorem q3469 : (Jvm.Cond.castable "[LRingDomino$Craft;" "java/lang/Object") ∈ lw_tbl := lw_at lw_m15 10 rfl

theorem q3470 : (Jvm.Cond.castable "[LRingDomino$What;" "java/lang/Object") ∈ lw_tbl := lw_at lw_m15 11 rfl

theorem q3458 : (Jvm.Cond.sameMethod "[Ljava/lang/Object;" "java/lang/Object" "getClass" "()Ljava/lang/Class;") ∈ lw_all := lw_g (lw_at lw_m14 239 rfl) rfl
theorem q3459 : (Jvm.Cond.selects "[Ljava/lang/Object;" ({ cls := "java/lang/Object", name := "getClass", desc := "()Ljava/lang/Class;" } : Jvm.MethodName) ({ cls := "java/lang/Object", name := "getClass", desc := "()Ljava/lang/Class;" } : Jvm.MethodName)) ∈ lw_all := lw_g (lw_at lw_m15 0 rfl) rfl
theorem q3464 : (Jvm.Cond.castable "[Ljava/lang/Object;" "java/lang/Object") ∈ lw_tbl := lw_at lw_m15 5 rfl

theorem q3468 : (Jvm.Cond.castable "[Ljava/lang/String;" "java/lang/Object") ∈ lw_tbl := lw_at lw_m15 9 rfl

theorem q3465 : (Jvm.Cond.castable "[Ljava/util/HashMap$Node;" "java/lang/Object") ∈ lw_tbl := lw_at lw_m15 6 rfl

theorem q3466 : (Jvm.Cond.castable "[Z" "java/lang/Object") ∈ lw_tbl := lw_at lw_m15 7 rfl

theorem q1248 : (Jvm.Cond.interfaceMethod "java/lang/Comparable" "java/lang/Comparable" "compareTo" "(Ljava/lang/Object;)I") ∈ lw_tbl := lw_at lw_m5 189 rfl
theorem q1249 : (Jvm.Cond.declares ({ cls := "java/lang/Comparable", name := "compareTo", desc := "(Ljava/lang/Object;)I" } : Jvm.MethodName)) ∈ lw_tbl := lw_at lw_m5 190 rfl

theorem q140 : (Jvm.Cond.initialized "java/lang/Integer$IntegerCache") ∈ lw_all := lw_g (lw_at lw_m1 41 rfl) rfl
theorem q1565 : (Jvm.Cond.laysStatic "java/lang/Integer$IntegerCache" "high" "I") ∈ lw_tbl := lw_at lw_m7 26 rfl
theorem q1567 : (Jvm.Cond.laysStatic "java/lang/Integer$IntegerCache" "cache" "[Ljava/lang/Integer;") ∈ lw_tbl := lw_at lw_m7 28 rfl

theorem q126 : (Jvm.Cond.initialized "java/lang/System") ∈ lw_all := lw_g (lw_at lw_m1 27 rfl) rfl
theorem q428 : (Jvm.Cond.static ({ cls := "java/lang/System", name := "arraycopy", desc := "(Ljava/lang/Object;ILjava/lang/Object;II)V" } : Jvm.MethodName)) ∈ lw_all := lw_g (lw_at lw_m2 89 rfl) rfl
theorem q429 : (Jvm.Cond.native ({ cls := "java/lang/System", name := "arraycopy", desc := "(Ljava/lang/Object;ILjava/lang/Object;II)V" } : Jvm.MethodName)) ∈ lw_all := lw_g (lw_at lw_m2 90 rfl) rfl
theorem q1050 : (Jvm.Cond.static ({ cls := "java/lang/System", name := "identityHashCode", desc := "(Ljava/lang/Object;)I" } : Jvm.MethodName)) ∈ lw_all := lw_g (lw_at lw_m4 231 rfl) rfl
theorem q1051 : (Jvm.Cond.native ({ cls := "java/lang/System", name := "identityHashCode", desc := "(Ljava/lang/Object;)I" } : Jvm.MethodName)) ∈ lw_all := lw_g (lw_at lw_m4 232 rfl) rfl

theorem q2101 : (Jvm.Cond.interfaceMethod "java/util/Collection" "java/util/Collection" "toArray" "()[Ljava/lang/Object;") ∈ lw_tbl := lw_at lw_m9 82 rfl
theorem q2102 : (Jvm.Cond.declares ({ cls := "java/util/Collection", name := "toArray", desc := "()[Ljava/lang/Object;" } : Jvm.MethodName)) ∈ lw_tbl := lw_at lw_m9 83 rfl

theorem q2140 : (Jvm.Cond.interfaceMethod "java/util/Iterator" "java/util/Iterator" "hasNext" "()Z") ∈ lw_tbl := lw_at lw_m9 121 rfl
theorem q2141 : (Jvm.Cond.declares ({ cls := "java/util/Iterator", name := "hasNext", desc := "()Z" } : Jvm.MethodName)) ∈ lw_tbl := lw_at lw_m9 122 rfl
theorem q2150 : (Jvm.Cond.interfaceMethod "java/util/Iterator" "java/util/Iterator" "next" "()Ljava/lang/Object;") ∈ lw_tbl := lw_at lw_m9 131 rfl
theorem q2151 : (Jvm.Cond.declares ({ cls := "java/util/Iterator", name := "next", desc := "()Ljava/lang/Object;" } : Jvm.MethodName)) ∈ lw_tbl := lw_at lw_m9 132 rfl

theorem q928 : (Jvm.Cond.interfaceMethod "java/util/List" "java/util/List" "get" "(I)Ljava/lang/Object;") ∈ lw_tbl := lw_at lw_m4 109 rfl
theorem q929 : (Jvm.Cond.declares ({ cls := "java/util/List", name := "get", desc := "(I)Ljava/lang/Object;" } : Jvm.MethodName)) ∈ lw_tbl := lw_at lw_m4 110 rfl

theorem q1119 : (Jvm.Cond.interfaceMethod "jdk/internal/access/JavaLangAccess" "jdk/internal/access/JavaLangAccess" "getUTF16Char" "([BI)C") ∈ lw_tbl := lw_at lw_m5 60 rfl
theorem q1120 : (Jvm.Cond.declares ({ cls := "jdk/internal/access/JavaLangAccess", name := "getUTF16Char", desc := "([BI)C" } : Jvm.MethodName)) ∈ lw_tbl := lw_at lw_m5 61 rfl

theorem q137 : (Jvm.Cond.initialized "jdk/internal/misc/UnsafeConstants") ∈ lw_all := lw_g (lw_at lw_m1 38 rfl) rfl
theorem q1422 : (Jvm.Cond.laysStatic "jdk/internal/misc/UnsafeConstants" "BIG_ENDIAN" "Z") ∈ lw_tbl := lw_at lw_m6 123 rfl

theorem q189 : (Jvm.Cond.arrayClass Jvm.ClassFile.FieldType.byte) ∈ lw_all := lw_g (lw_at lw_m1 90 rfl) rfl
theorem q267 : (Jvm.Cond.arrayClass Jvm.ClassFile.FieldType.int) ∈ lw_all := lw_g (lw_at lw_m1 168 rfl) rfl
theorem q846 : (Jvm.Cond.arrayOver (Jvm.ClassFile.FieldType.object "java/lang/Object")) ∈ lw_tbl := lw_at lw_m4 27 rfl
theorem q1601 : (Jvm.Cond.arrayOver (Jvm.ClassFile.FieldType.object "java/util/HashMap$Node")) ∈ lw_tbl := lw_at lw_m7 62 rfl
theorem q2082 : (Jvm.Cond.arrayClass Jvm.ClassFile.FieldType.boolean) ∈ lw_all := lw_g (lw_at lw_m9 63 rfl) rfl
theorem q3365 : (Jvm.Cond.arrayClass Jvm.ClassFile.FieldType.long) ∈ lw_all := lw_g (lw_at lw_m14 146 rfl) rfl
theorem q3471 : (Jvm.Cond.arrayClass Jvm.ClassFile.FieldType.char) ∈ lw_all := lw_g (lw_at lw_m15 12 rfl) rfl
theorem q3472 : (Jvm.Cond.arrayClass Jvm.ClassFile.FieldType.short) ∈ lw_all := lw_g (lw_at lw_m15 13 rfl) rfl
theorem q3503 : (Jvm.Cond.arrayOver (Jvm.ClassFile.FieldType.object "java/lang/String")) ∈ lw_tbl := lw_at lw_m15 44 rfl

