set_option maxRecDepth 100000
/-! RingDomino -/
def RX1 : String := "RingDomino"
def TX1 : u_T := fun k => match k with
  | 0 => ("RingDomino", "tape", "LRingDomino$Tape;", true)
  | 1 => ("RingDomino", "errorAt", "I", false)
  | 2 => ("RingDomino", "game", "LRingDomino$Game;", false)
  | _ => ("RingDomino", "ahead", "LRingDomino$Game;", true)
def tyX1 : Nat → FieldType := fun k => match k with
  | 0 => .object "RingDomino$Tape"
  | 1 => .int
  | 2 => .object "RingDomino$Game"
  | _ => .object "RingDomino$Game"
abbrev wsX10 : List Cond := u_ws RX1 TX1 4
theorem nmX1 : ∀ a, a < 4 → ∀ b, b < 4 → a ≠ b → (TX1 a).2.1 ≠ (TX1 b).2.1 := by decide +kernel
theorem tyX1_ok : ∀ k, k < 4 → parseFieldDescriptor (TX1 k).2.2.1 = some (tyX1 k) := by decide +kernel
abbrev cX1_init : ByteArray := prog_1_method_7_code
def yX1_init : MethodName := ⟨RX1, "<init>", "()V"⟩
def dkwX1_init_1 : List UInt8 := [89, 183, 0, 49, 181, 0, 50, 42, 187, 0, 47, 89, 183, 0, 49, 181, 0, 54, 177]
abbrev dktX1_init_1 : List UInt8 := dkwX1_init_1 ++ []
def dkwX1_init_0 : List UInt8 := [42, 183, 0, 33, 42, 187, 0, 36, 89, 183, 0, 38, 181, 0, 39, 42, 2, 181, 0, 43, 42, 187, 0, 47]
abbrev dktX1_init_0 : List UInt8 := dkwX1_init_0 ++ dktX1_init_1
theorem dksX1_init_0 : cX1_init.data.toList.drop 0 = dktX1_init_0 := by decide +kernel
theorem dksX1_init_1 : cX1_init.data.toList.drop 24 = dktX1_init_1 := dk_seg dksX1_init_0 24 rfl rfl
theorem dX1_init_0 : decode cX1_init 0 = .ok (.aload_n 0, 1) := dk_42 (dk_at dksX1_init_0 0 rfl rfl)
theorem dX1_init_1 : decode cX1_init 1 = .ok (.invokespecial 33, 3) := dk_183 0 33 (dk_at dksX1_init_0 1 rfl rfl)
theorem dX1_init_4 : decode cX1_init 4 = .ok (.aload_n 0, 1) := dk_42 (dk_at dksX1_init_0 4 rfl rfl)
theorem dX1_init_5 : decode cX1_init 5 = .ok (.new 36, 3) := dk_187 0 36 (dk_at dksX1_init_0 5 rfl rfl)
theorem dX1_init_8 : decode cX1_init 8 = .ok (.dup, 1) := dk_89 (dk_at dksX1_init_0 8 rfl rfl)
theorem dX1_init_9 : decode cX1_init 9 = .ok (.invokespecial 38, 3) := dk_183 0 38 (dk_at dksX1_init_0 9 rfl rfl)
theorem dX1_init_12 : decode cX1_init 12 = .ok (.putfield 39, 3) := dk_181 0 39 (dk_at dksX1_init_0 12 rfl rfl)
theorem dX1_init_15 : decode cX1_init 15 = .ok (.aload_n 0, 1) := dk_42 (dk_at dksX1_init_0 15 rfl rfl)
theorem dX1_init_16 : decode cX1_init 16 = .ok (.iconst (-1), 1) := dk_2 (dk_at dksX1_init_0 16 rfl rfl)
theorem dX1_init_17 : decode cX1_init 17 = .ok (.putfield 43, 3) := dk_181 0 43 (dk_at dksX1_init_0 17 rfl rfl)
theorem dX1_init_20 : decode cX1_init 20 = .ok (.aload_n 0, 1) := dk_42 (dk_at dksX1_init_0 20 rfl rfl)
theorem dX1_init_21 : decode cX1_init 21 = .ok (.new 47, 3) := dk_187 0 47 (dk_at dksX1_init_0 21 rfl rfl)
theorem dX1_init_24 : decode cX1_init 24 = .ok (.dup, 1) := dk_89 (dk_at dksX1_init_1 0 rfl rfl)
theorem dX1_init_25 : decode cX1_init 25 = .ok (.invokespecial 49, 3) := dk_183 0 49 (dk_at dksX1_init_1 1 rfl rfl)
theorem dX1_init_28 : decode cX1_init 28 = .ok (.putfield 50, 3) := dk_181 0 50 (dk_at dksX1_init_1 4 rfl rfl)
theorem dX1_init_31 : decode cX1_init 31 = .ok (.aload_n 0, 1) := dk_42 (dk_at dksX1_init_1 7 rfl rfl)
theorem dX1_init_32 : decode cX1_init 32 = .ok (.new 47, 3) := dk_187 0 47 (dk_at dksX1_init_1 8 rfl rfl)
theorem dX1_init_35 : decode cX1_init 35 = .ok (.dup, 1) := dk_89 (dk_at dksX1_init_1 11 rfl rfl)
theorem dX1_init_36 : decode cX1_init 36 = .ok (.invokespecial 49, 3) := dk_183 0 49 (dk_at dksX1_init_1 12 rfl rfl)
theorem dX1_init_39 : decode cX1_init 39 = .ok (.putfield 54, 3) := dk_181 0 54 (dk_at dksX1_init_1 15 rfl rfl)
theorem dX1_init_42 : decode cX1_init 42 = .ok (.return_, 1) := dk_177 (dk_at dksX1_init_1 18 rfl rfl)
abbrev cX1_teach : ByteArray := prog_1_method_10_code
def yX1_teach : MethodName := ⟨RX1, "teach", "()I"⟩
def dkwX1_teach_2 : List UInt8 := [180, 0, 93, 181, 0, 43, 42, 180, 0, 39, 3, 181, 0, 57, 27, 172]
abbrev dktX1_teach_2 : List UInt8 := dkwX1_teach_2 ++ []
def dkwX1_teach_1 : List UInt8 := [182, 0, 77, 183, 0, 81, 182, 0, 84, 181, 0, 50, 167, 0, 17, 77, 44, 180, 0, 90, 60, 42, 44]
abbrev dktX1_teach_1 : List UInt8 := dkwX1_teach_1 ++ dktX1_teach_2
def dkwX1_teach_0 : List UInt8 := [3, 60, 42, 2, 181, 0, 43, 42, 187, 0, 70, 89, 187, 0, 72, 89, 42, 180, 0, 39, 183, 0, 74]
abbrev dktX1_teach_0 : List UInt8 := dkwX1_teach_0 ++ dktX1_teach_1
theorem dksX1_teach_0 : cX1_teach.data.toList.drop 0 = dktX1_teach_0 := by decide +kernel
theorem dksX1_teach_1 : cX1_teach.data.toList.drop 23 = dktX1_teach_1 := dk_seg dksX1_teach_0 23 rfl rfl
theorem dksX1_teach_2 : cX1_teach.data.toList.drop 46 = dktX1_teach_2 := dk_seg dksX1_teach_1 23 rfl rfl
theorem dX1_teach_0 : decode cX1_teach 0 = .ok (.iconst 0, 1) := dk_3 (dk_at dksX1_teach_0 0 rfl rfl)
theorem dX1_teach_1 : decode cX1_teach 1 = .ok (.istore_n 1, 1) := dk_60 (dk_at dksX1_teach_0 1 rfl rfl)
theorem dX1_teach_2 : decode cX1_teach 2 = .ok (.aload_n 0, 1) := dk_42 (dk_at dksX1_teach_0 2 rfl rfl)
theorem dX1_teach_3 : decode cX1_teach 3 = .ok (.iconst (-1), 1) := dk_2 (dk_at dksX1_teach_0 3 rfl rfl)
theorem dX1_teach_4 : decode cX1_teach 4 = .ok (.putfield 43, 3) := dk_181 0 43 (dk_at dksX1_teach_0 4 rfl rfl)
theorem dX1_teach_7 : decode cX1_teach 7 = .ok (.aload_n 0, 1) := dk_42 (dk_at dksX1_teach_0 7 rfl rfl)
theorem dX1_teach_8 : decode cX1_teach 8 = .ok (.new 70, 3) := dk_187 0 70 (dk_at dksX1_teach_0 8 rfl rfl)
theorem dX1_teach_11 : decode cX1_teach 11 = .ok (.dup, 1) := dk_89 (dk_at dksX1_teach_0 11 rfl rfl)
theorem dX1_teach_12 : decode cX1_teach 12 = .ok (.new 72, 3) := dk_187 0 72 (dk_at dksX1_teach_0 12 rfl rfl)
theorem dX1_teach_15 : decode cX1_teach 15 = .ok (.dup, 1) := dk_89 (dk_at dksX1_teach_0 15 rfl rfl)
theorem dX1_teach_16 : decode cX1_teach 16 = .ok (.aload_n 0, 1) := dk_42 (dk_at dksX1_teach_0 16 rfl rfl)
theorem dX1_teach_17 : decode cX1_teach 17 = .ok (.getfield 39, 3) := dk_180 0 39 (dk_at dksX1_teach_0 17 rfl rfl)
theorem dX1_teach_20 : decode cX1_teach 20 = .ok (.invokespecial 74, 3) := dk_183 0 74 (dk_at dksX1_teach_0 20 rfl rfl)
theorem dX1_teach_23 : decode cX1_teach 23 = .ok (.invokevirtual 77, 3) := dk_182 0 77 (dk_at dksX1_teach_1 0 rfl rfl)
theorem dX1_teach_26 : decode cX1_teach 26 = .ok (.invokespecial 81, 3) := dk_183 0 81 (dk_at dksX1_teach_1 3 rfl rfl)
theorem dX1_teach_29 : decode cX1_teach 29 = .ok (.invokevirtual 84, 3) := dk_182 0 84 (dk_at dksX1_teach_1 6 rfl rfl)
theorem dX1_teach_32 : decode cX1_teach 32 = .ok (.putfield 50, 3) := dk_181 0 50 (dk_at dksX1_teach_1 9 rfl rfl)
theorem dX1_teach_35 : decode cX1_teach 35 = .ok (.goto 17, 3) := dk_167 0 17 (dk_at dksX1_teach_1 12 rfl rfl)
theorem dX1_teach_38 : decode cX1_teach 38 = .ok (.astore_n 2, 1) := dk_77 (dk_at dksX1_teach_1 15 rfl rfl)
theorem dX1_teach_39 : decode cX1_teach 39 = .ok (.aload_n 2, 1) := dk_44 (dk_at dksX1_teach_1 16 rfl rfl)
theorem dX1_teach_40 : decode cX1_teach 40 = .ok (.getfield 90, 3) := dk_180 0 90 (dk_at dksX1_teach_1 17 rfl rfl)
theorem dX1_teach_43 : decode cX1_teach 43 = .ok (.istore_n 1, 1) := dk_60 (dk_at dksX1_teach_1 20 rfl rfl)
theorem dX1_teach_44 : decode cX1_teach 44 = .ok (.aload_n 0, 1) := dk_42 (dk_at dksX1_teach_1 21 rfl rfl)
theorem dX1_teach_45 : decode cX1_teach 45 = .ok (.aload_n 2, 1) := dk_44 (dk_at dksX1_teach_1 22 rfl rfl)
theorem dX1_teach_46 : decode cX1_teach 46 = .ok (.getfield 93, 3) := dk_180 0 93 (dk_at dksX1_teach_2 0 rfl rfl)
theorem dX1_teach_49 : decode cX1_teach 49 = .ok (.putfield 43, 3) := dk_181 0 43 (dk_at dksX1_teach_2 3 rfl rfl)
theorem dX1_teach_52 : decode cX1_teach 52 = .ok (.aload_n 0, 1) := dk_42 (dk_at dksX1_teach_2 6 rfl rfl)
theorem dX1_teach_53 : decode cX1_teach 53 = .ok (.getfield 39, 3) := dk_180 0 39 (dk_at dksX1_teach_2 7 rfl rfl)
theorem dX1_teach_56 : decode cX1_teach 56 = .ok (.iconst 0, 1) := dk_3 (dk_at dksX1_teach_2 10 rfl rfl)
theorem dX1_teach_57 : decode cX1_teach 57 = .ok (.putfield 57, 3) := dk_181 0 57 (dk_at dksX1_teach_2 11 rfl rfl)
theorem dX1_teach_60 : decode cX1_teach 60 = .ok (.iload_n 1, 1) := dk_27 (dk_at dksX1_teach_2 14 rfl rfl)
theorem dX1_teach_61 : decode cX1_teach 61 = .ok (.ireturn, 1) := dk_172 (dk_at dksX1_teach_2 15 rfl rfl)
abbrev cX1_errorAt : ByteArray := prog_1_method_11_code
def yX1_errorAt : MethodName := ⟨RX1, "errorAt", "()I"⟩
theorem dX1_errorAt_0 : decode cX1_errorAt 0 = .ok (.aload_n 0, 1) := by decide +kernel
theorem dX1_errorAt_1 : decode cX1_errorAt 1 = .ok (.getfield 43, 3) := by decide +kernel
theorem dX1_errorAt_4 : decode cX1_errorAt 4 = .ok (.ireturn, 1) := by decide +kernel
abbrev cX1_columns : ByteArray := prog_1_method_16_code
def yX1_columns : MethodName := ⟨RX1, "columns", "()I"⟩
def dkwX1_columns_0 : List UInt8 := [42, 180, 0, 50, 180, 0, 114, 172]
abbrev dktX1_columns_0 : List UInt8 := dkwX1_columns_0 ++ []
theorem dksX1_columns_0 : cX1_columns.data.toList.drop 0 = dktX1_columns_0 := by decide +kernel
theorem dX1_columns_0 : decode cX1_columns 0 = .ok (.aload_n 0, 1) := dk_42 (dk_at dksX1_columns_0 0 rfl rfl)
theorem dX1_columns_1 : decode cX1_columns 1 = .ok (.getfield 50, 3) := dk_180 0 50 (dk_at dksX1_columns_0 1 rfl rfl)
theorem dX1_columns_4 : decode cX1_columns 4 = .ok (.getfield 114, 3) := dk_180 0 114 (dk_at dksX1_columns_0 4 rfl rfl)
theorem dX1_columns_7 : decode cX1_columns 7 = .ok (.ireturn, 1) := dk_172 (dk_at dksX1_columns_0 7 rfl rfl)
abbrev cX1_rows : ByteArray := prog_1_method_17_code
def yX1_rows : MethodName := ⟨RX1, "rows", "()I"⟩
def dkwX1_rows_0 : List UInt8 := [42, 180, 0, 50, 180, 0, 117, 172]
abbrev dktX1_rows_0 : List UInt8 := dkwX1_rows_0 ++ []
theorem dksX1_rows_0 : cX1_rows.data.toList.drop 0 = dktX1_rows_0 := by decide +kernel
theorem dX1_rows_0 : decode cX1_rows 0 = .ok (.aload_n 0, 1) := dk_42 (dk_at dksX1_rows_0 0 rfl rfl)
theorem dX1_rows_1 : decode cX1_rows 1 = .ok (.getfield 50, 3) := dk_180 0 50 (dk_at dksX1_rows_0 1 rfl rfl)
theorem dX1_rows_4 : decode cX1_rows 4 = .ok (.getfield 117, 3) := dk_180 0 117 (dk_at dksX1_rows_0 4 rfl rfl)
theorem dX1_rows_7 : decode cX1_rows 7 = .ok (.ireturn, 1) := dk_172 (dk_at dksX1_rows_0 7 rfl rfl)
abbrev cX1_tiles : ByteArray := prog_1_method_18_code
def yX1_tiles : MethodName := ⟨RX1, "tiles", "()I"⟩
def dkwX1_tiles_0 : List UInt8 := [42, 180, 0, 50, 180, 0, 96, 182, 0, 100, 172]
abbrev dktX1_tiles_0 : List UInt8 := dkwX1_tiles_0 ++ []
theorem dksX1_tiles_0 : cX1_tiles.data.toList.drop 0 = dktX1_tiles_0 := by decide +kernel
theorem dX1_tiles_0 : decode cX1_tiles 0 = .ok (.aload_n 0, 1) := dk_42 (dk_at dksX1_tiles_0 0 rfl rfl)
theorem dX1_tiles_1 : decode cX1_tiles 1 = .ok (.getfield 50, 3) := dk_180 0 50 (dk_at dksX1_tiles_0 1 rfl rfl)
theorem dX1_tiles_4 : decode cX1_tiles 4 = .ok (.getfield 96, 3) := dk_180 0 96 (dk_at dksX1_tiles_0 4 rfl rfl)
theorem dX1_tiles_7 : decode cX1_tiles 7 = .ok (.invokevirtual 100, 3) := dk_182 0 100 (dk_at dksX1_tiles_0 7 rfl rfl)
theorem dX1_tiles_10 : decode cX1_tiles 10 = .ok (.ireturn, 1) := dk_172 (dk_at dksX1_tiles_0 10 rfl rfl)
abbrev cX1_rounds : ByteArray := prog_1_method_19_code
def yX1_rounds : MethodName := ⟨RX1, "rounds", "()I"⟩
def dkwX1_rounds_0 : List UInt8 := [42, 180, 0, 50, 180, 0, 120, 172]
abbrev dktX1_rounds_0 : List UInt8 := dkwX1_rounds_0 ++ []
theorem dksX1_rounds_0 : cX1_rounds.data.toList.drop 0 = dktX1_rounds_0 := by decide +kernel
theorem dX1_rounds_0 : decode cX1_rounds 0 = .ok (.aload_n 0, 1) := dk_42 (dk_at dksX1_rounds_0 0 rfl rfl)
theorem dX1_rounds_1 : decode cX1_rounds 1 = .ok (.getfield 50, 3) := dk_180 0 50 (dk_at dksX1_rounds_0 1 rfl rfl)
theorem dX1_rounds_4 : decode cX1_rounds 4 = .ok (.getfield 120, 3) := dk_180 0 120 (dk_at dksX1_rounds_0 4 rfl rfl)
theorem dX1_rounds_7 : decode cX1_rounds 7 = .ok (.ireturn, 1) := dk_172 (dk_at dksX1_rounds_0 7 rfl rfl)
abbrev cX1_placedTiles : ByteArray := prog_1_method_20_code
def yX1_placedTiles : MethodName := ⟨RX1, "placedTiles", "()I"⟩
def dkwX1_placedTiles_0 : List UInt8 := [42, 180, 0, 50, 182, 0, 123, 172]
abbrev dktX1_placedTiles_0 : List UInt8 := dkwX1_placedTiles_0 ++ []
theorem dksX1_placedTiles_0 : cX1_placedTiles.data.toList.drop 0 = dktX1_placedTiles_0 := by decide +kernel
theorem dX1_placedTiles_0 : decode cX1_placedTiles 0 = .ok (.aload_n 0, 1) := dk_42 (dk_at dksX1_placedTiles_0 0 rfl rfl)
theorem dX1_placedTiles_1 : decode cX1_placedTiles 1 = .ok (.getfield 50, 3) := dk_180 0 50 (dk_at dksX1_placedTiles_0 1 rfl rfl)
theorem dX1_placedTiles_4 : decode cX1_placedTiles 4 = .ok (.invokevirtual 123, 3) := dk_182 0 123 (dk_at dksX1_placedTiles_0 4 rfl rfl)
theorem dX1_placedTiles_7 : decode cX1_placedTiles 7 = .ok (.ireturn, 1) := dk_172 (dk_at dksX1_placedTiles_0 7 rfl rfl)
abbrev cX1_matches : ByteArray := prog_1_method_21_code
def yX1_matches : MethodName := ⟨RX1, "matches", "()I"⟩
def dkwX1_matches_0 : List UInt8 := [42, 180, 0, 50, 182, 0, 126, 172]
abbrev dktX1_matches_0 : List UInt8 := dkwX1_matches_0 ++ []
theorem dksX1_matches_0 : cX1_matches.data.toList.drop 0 = dktX1_matches_0 := by decide +kernel
theorem dX1_matches_0 : decode cX1_matches 0 = .ok (.aload_n 0, 1) := dk_42 (dk_at dksX1_matches_0 0 rfl rfl)
theorem dX1_matches_1 : decode cX1_matches 1 = .ok (.getfield 50, 3) := dk_180 0 50 (dk_at dksX1_matches_0 1 rfl rfl)
theorem dX1_matches_4 : decode cX1_matches 4 = .ok (.invokevirtual 126, 3) := dk_182 0 126 (dk_at dksX1_matches_0 4 rfl rfl)
theorem dX1_matches_7 : decode cX1_matches 7 = .ok (.ireturn, 1) := dk_172 (dk_at dksX1_matches_0 7 rfl rfl)
abbrev cX1_points : ByteArray := prog_1_method_22_code
def yX1_points : MethodName := ⟨RX1, "points", "()I"⟩
def dkwX1_points_0 : List UInt8 := [42, 180, 0, 50, 182, 0, 129, 172]
abbrev dktX1_points_0 : List UInt8 := dkwX1_points_0 ++ []
theorem dksX1_points_0 : cX1_points.data.toList.drop 0 = dktX1_points_0 := by decide +kernel
theorem dX1_points_0 : decode cX1_points 0 = .ok (.aload_n 0, 1) := dk_42 (dk_at dksX1_points_0 0 rfl rfl)
theorem dX1_points_1 : decode cX1_points 1 = .ok (.getfield 50, 3) := dk_180 0 50 (dk_at dksX1_points_0 1 rfl rfl)
theorem dX1_points_4 : decode cX1_points 4 = .ok (.invokevirtual 129, 3) := dk_182 0 129 (dk_at dksX1_points_0 4 rfl rfl)
theorem dX1_points_7 : decode cX1_points 7 = .ok (.ireturn, 1) := dk_172 (dk_at dksX1_points_0 7 rfl rfl)
abbrev cX1_rings : ByteArray := prog_1_method_23_code
def yX1_rings : MethodName := ⟨RX1, "rings", "()I"⟩
def dkwX1_rings_0 : List UInt8 := [42, 180, 0, 50, 182, 0, 132, 172]
abbrev dktX1_rings_0 : List UInt8 := dkwX1_rings_0 ++ []
theorem dksX1_rings_0 : cX1_rings.data.toList.drop 0 = dktX1_rings_0 := by decide +kernel
theorem dX1_rings_0 : decode cX1_rings 0 = .ok (.aload_n 0, 1) := dk_42 (dk_at dksX1_rings_0 0 rfl rfl)
theorem dX1_rings_1 : decode cX1_rings 1 = .ok (.getfield 50, 3) := dk_180 0 50 (dk_at dksX1_rings_0 1 rfl rfl)
theorem dX1_rings_4 : decode cX1_rings 4 = .ok (.invokevirtual 132, 3) := dk_182 0 132 (dk_at dksX1_rings_0 4 rfl rfl)
theorem dX1_rings_7 : decode cX1_rings 7 = .ok (.ireturn, 1) := dk_172 (dk_at dksX1_rings_0 7 rfl rfl)
abbrev cX1_groups : ByteArray := prog_1_method_24_code
def yX1_groups : MethodName := ⟨RX1, "groups", "()I"⟩
def dkwX1_groups_0 : List UInt8 := [42, 180, 0, 50, 182, 0, 135, 172]
abbrev dktX1_groups_0 : List UInt8 := dkwX1_groups_0 ++ []
theorem dksX1_groups_0 : cX1_groups.data.toList.drop 0 = dktX1_groups_0 := by decide +kernel
theorem dX1_groups_0 : decode cX1_groups 0 = .ok (.aload_n 0, 1) := dk_42 (dk_at dksX1_groups_0 0 rfl rfl)
theorem dX1_groups_1 : decode cX1_groups 1 = .ok (.getfield 50, 3) := dk_180 0 50 (dk_at dksX1_groups_0 1 rfl rfl)
theorem dX1_groups_4 : decode cX1_groups 4 = .ok (.invokevirtual 135, 3) := dk_182 0 135 (dk_at dksX1_groups_0 4 rfl rfl)
theorem dX1_groups_7 : decode cX1_groups 7 = .ok (.ireturn, 1) := dk_172 (dk_at dksX1_groups_0 7 rfl rfl)
abbrev cX1_roundsUntilRing : ByteArray := prog_1_method_43_code
def yX1_roundsUntilRing : MethodName := ⟨RX1, "roundsUntilRing", "()I"⟩
def dkwX1_roundsUntilRing_1 : List UInt8 := [182, 0, 132, 158, 0, 5, 27, 172, 42, 180, 0, 54, 4, 182, 0, 220, 132, 1, 1, 167, 255, 227, 2, 172]
abbrev dktX1_roundsUntilRing_1 : List UInt8 := dkwX1_roundsUntilRing_1 ++ []
def dkwX1_roundsUntilRing_0 : List UInt8 := [42, 180, 0, 54, 42, 180, 0, 50, 182, 0, 223, 87, 3, 60, 27, 16, 20, 163, 0, 29, 42, 180, 0, 54]
abbrev dktX1_roundsUntilRing_0 : List UInt8 := dkwX1_roundsUntilRing_0 ++ dktX1_roundsUntilRing_1
theorem dksX1_roundsUntilRing_0 : cX1_roundsUntilRing.data.toList.drop 0 = dktX1_roundsUntilRing_0 := by decide +kernel
theorem dksX1_roundsUntilRing_1 : cX1_roundsUntilRing.data.toList.drop 24 = dktX1_roundsUntilRing_1 := dk_seg dksX1_roundsUntilRing_0 24 rfl rfl
theorem dX1_roundsUntilRing_0 : decode cX1_roundsUntilRing 0 = .ok (.aload_n 0, 1) := dk_42 (dk_at dksX1_roundsUntilRing_0 0 rfl rfl)
theorem dX1_roundsUntilRing_1 : decode cX1_roundsUntilRing 1 = .ok (.getfield 54, 3) := dk_180 0 54 (dk_at dksX1_roundsUntilRing_0 1 rfl rfl)
theorem dX1_roundsUntilRing_4 : decode cX1_roundsUntilRing 4 = .ok (.aload_n 0, 1) := dk_42 (dk_at dksX1_roundsUntilRing_0 4 rfl rfl)
theorem dX1_roundsUntilRing_5 : decode cX1_roundsUntilRing 5 = .ok (.getfield 50, 3) := dk_180 0 50 (dk_at dksX1_roundsUntilRing_0 5 rfl rfl)
theorem dX1_roundsUntilRing_8 : decode cX1_roundsUntilRing 8 = .ok (.invokevirtual 223, 3) := dk_182 0 223 (dk_at dksX1_roundsUntilRing_0 8 rfl rfl)
theorem dX1_roundsUntilRing_11 : decode cX1_roundsUntilRing 11 = .ok (.pop, 1) := dk_87 (dk_at dksX1_roundsUntilRing_0 11 rfl rfl)
theorem dX1_roundsUntilRing_12 : decode cX1_roundsUntilRing 12 = .ok (.iconst 0, 1) := dk_3 (dk_at dksX1_roundsUntilRing_0 12 rfl rfl)
theorem dX1_roundsUntilRing_13 : decode cX1_roundsUntilRing 13 = .ok (.istore_n 1, 1) := dk_60 (dk_at dksX1_roundsUntilRing_0 13 rfl rfl)
theorem dX1_roundsUntilRing_14 : decode cX1_roundsUntilRing 14 = .ok (.iload_n 1, 1) := dk_27 (dk_at dksX1_roundsUntilRing_0 14 rfl rfl)
theorem dX1_roundsUntilRing_15 : decode cX1_roundsUntilRing 15 = .ok (.bipush 20, 2) := dk_16 20 (dk_at dksX1_roundsUntilRing_0 15 rfl rfl)
theorem dX1_roundsUntilRing_17 : decode cX1_roundsUntilRing 17 = .ok (.if_icmp .gt 29, 3) := dk_163 0 29 (dk_at dksX1_roundsUntilRing_0 17 rfl rfl)
theorem dX1_roundsUntilRing_20 : decode cX1_roundsUntilRing 20 = .ok (.aload_n 0, 1) := dk_42 (dk_at dksX1_roundsUntilRing_0 20 rfl rfl)
theorem dX1_roundsUntilRing_21 : decode cX1_roundsUntilRing 21 = .ok (.getfield 54, 3) := dk_180 0 54 (dk_at dksX1_roundsUntilRing_0 21 rfl rfl)
theorem dX1_roundsUntilRing_24 : decode cX1_roundsUntilRing 24 = .ok (.invokevirtual 132, 3) := dk_182 0 132 (dk_at dksX1_roundsUntilRing_1 0 rfl rfl)
theorem dX1_roundsUntilRing_27 : decode cX1_roundsUntilRing 27 = .ok (.ifCond .le 5, 3) := dk_158 0 5 (dk_at dksX1_roundsUntilRing_1 3 rfl rfl)
theorem dX1_roundsUntilRing_30 : decode cX1_roundsUntilRing 30 = .ok (.iload_n 1, 1) := dk_27 (dk_at dksX1_roundsUntilRing_1 6 rfl rfl)
theorem dX1_roundsUntilRing_31 : decode cX1_roundsUntilRing 31 = .ok (.ireturn, 1) := dk_172 (dk_at dksX1_roundsUntilRing_1 7 rfl rfl)
theorem dX1_roundsUntilRing_32 : decode cX1_roundsUntilRing 32 = .ok (.aload_n 0, 1) := dk_42 (dk_at dksX1_roundsUntilRing_1 8 rfl rfl)
theorem dX1_roundsUntilRing_33 : decode cX1_roundsUntilRing 33 = .ok (.getfield 54, 3) := dk_180 0 54 (dk_at dksX1_roundsUntilRing_1 9 rfl rfl)
theorem dX1_roundsUntilRing_36 : decode cX1_roundsUntilRing 36 = .ok (.iconst 1, 1) := dk_4 (dk_at dksX1_roundsUntilRing_1 12 rfl rfl)
theorem dX1_roundsUntilRing_37 : decode cX1_roundsUntilRing 37 = .ok (.invokevirtual 220, 3) := dk_182 0 220 (dk_at dksX1_roundsUntilRing_1 13 rfl rfl)
theorem dX1_roundsUntilRing_40 : decode cX1_roundsUntilRing 40 = .ok (.iinc 1 1, 3) := dk_132 1 1 (dk_at dksX1_roundsUntilRing_1 16 rfl rfl)
theorem dX1_roundsUntilRing_43 : decode cX1_roundsUntilRing 43 = .ok (.goto (-29), 3) := dk_167 255 227 (dk_at dksX1_roundsUntilRing_1 19 rfl rfl)
theorem dX1_roundsUntilRing_46 : decode cX1_roundsUntilRing 46 = .ok (.iconst (-1), 1) := dk_2 (dk_at dksX1_roundsUntilRing_1 22 rfl rfl)
theorem dX1_roundsUntilRing_47 : decode cX1_roundsUntilRing 47 = .ok (.ireturn, 1) := dk_172 (dk_at dksX1_roundsUntilRing_1 23 rfl rfl)
abbrev cX1_remainder : ByteArray := prog_1_method_6_code
def yX1_remainder : MethodName := ⟨RX1, "remainder", "(II)I"⟩
def dkwX1_remainder_0 : List UInt8 := [26, 27, 112, 61, 28, 156, 0, 9, 28, 27, 96, 167, 0, 4, 28, 172]
abbrev dktX1_remainder_0 : List UInt8 := dkwX1_remainder_0 ++ []
theorem dksX1_remainder_0 : cX1_remainder.data.toList.drop 0 = dktX1_remainder_0 := by decide +kernel
theorem dX1_remainder_0 : decode cX1_remainder 0 = .ok (.iload_n 0, 1) := dk_26 (dk_at dksX1_remainder_0 0 rfl rfl)
theorem dX1_remainder_1 : decode cX1_remainder 1 = .ok (.iload_n 1, 1) := dk_27 (dk_at dksX1_remainder_0 1 rfl rfl)
theorem dX1_remainder_2 : decode cX1_remainder 2 = .ok (.irem, 1) := dk_112 (dk_at dksX1_remainder_0 2 rfl rfl)
theorem dX1_remainder_3 : decode cX1_remainder 3 = .ok (.istore_n 2, 1) := dk_61 (dk_at dksX1_remainder_0 3 rfl rfl)
theorem dX1_remainder_4 : decode cX1_remainder 4 = .ok (.iload_n 2, 1) := dk_28 (dk_at dksX1_remainder_0 4 rfl rfl)
theorem dX1_remainder_5 : decode cX1_remainder 5 = .ok (.ifCond .ge 9, 3) := dk_156 0 9 (dk_at dksX1_remainder_0 5 rfl rfl)
theorem dX1_remainder_8 : decode cX1_remainder 8 = .ok (.iload_n 2, 1) := dk_28 (dk_at dksX1_remainder_0 8 rfl rfl)
theorem dX1_remainder_9 : decode cX1_remainder 9 = .ok (.iload_n 1, 1) := dk_27 (dk_at dksX1_remainder_0 9 rfl rfl)
theorem dX1_remainder_10 : decode cX1_remainder 10 = .ok (.iadd, 1) := dk_96 (dk_at dksX1_remainder_0 10 rfl rfl)
theorem dX1_remainder_11 : decode cX1_remainder 11 = .ok (.goto 4, 3) := dk_167 0 4 (dk_at dksX1_remainder_0 11 rfl rfl)
theorem dX1_remainder_14 : decode cX1_remainder 14 = .ok (.iload_n 2, 1) := dk_28 (dk_at dksX1_remainder_0 14 rfl rfl)
theorem dX1_remainder_15 : decode cX1_remainder 15 = .ok (.ireturn, 1) := dk_172 (dk_at dksX1_remainder_0 15 rfl rfl)
abbrev cX1_bestTile : ByteArray := prog_1_method_47_code
def yX1_bestTile : MethodName := ⟨RX1, "bestTile", "()I"⟩
def dkwX1_bestTile_0 : List UInt8 := [42, 180, 0, 50, 182, 0, 237, 172]
abbrev dktX1_bestTile_0 : List UInt8 := dkwX1_bestTile_0 ++ []
theorem dksX1_bestTile_0 : cX1_bestTile.data.toList.drop 0 = dktX1_bestTile_0 := by decide +kernel
theorem dX1_bestTile_0 : decode cX1_bestTile 0 = .ok (.aload_n 0, 1) := dk_42 (dk_at dksX1_bestTile_0 0 rfl rfl)
theorem dX1_bestTile_1 : decode cX1_bestTile 1 = .ok (.getfield 50, 3) := dk_180 0 50 (dk_at dksX1_bestTile_0 1 rfl rfl)
theorem dX1_bestTile_4 : decode cX1_bestTile 4 = .ok (.invokevirtual 237, 3) := dk_182 0 237 (dk_at dksX1_bestTile_0 4 rfl rfl)
theorem dX1_bestTile_7 : decode cX1_bestTile 7 = .ok (.ireturn, 1) := dk_172 (dk_at dksX1_bestTile_0 7 rfl rfl)
abbrev cX1_meanMatch : ByteArray := prog_1_method_48_code
def yX1_meanMatch : MethodName := ⟨RX1, "meanMatch", "()D"⟩
def dkwX1_meanMatch_1 : List UInt8 := [180, 0, 50, 182, 0, 126, 135, 111, 175]
abbrev dktX1_meanMatch_1 : List UInt8 := dkwX1_meanMatch_1 ++ []
def dkwX1_meanMatch_0 : List UInt8 := [42, 180, 0, 50, 182, 0, 126, 154, 0, 7, 14, 167, 0, 20, 42, 180, 0, 50, 182, 0, 240, 135, 42]
abbrev dktX1_meanMatch_0 : List UInt8 := dkwX1_meanMatch_0 ++ dktX1_meanMatch_1
theorem dksX1_meanMatch_0 : cX1_meanMatch.data.toList.drop 0 = dktX1_meanMatch_0 := by decide +kernel
theorem dksX1_meanMatch_1 : cX1_meanMatch.data.toList.drop 23 = dktX1_meanMatch_1 := dk_seg dksX1_meanMatch_0 23 rfl rfl
theorem dX1_meanMatch_0 : decode cX1_meanMatch 0 = .ok (.aload_n 0, 1) := dk_42 (dk_at dksX1_meanMatch_0 0 rfl rfl)
theorem dX1_meanMatch_1 : decode cX1_meanMatch 1 = .ok (.getfield 50, 3) := dk_180 0 50 (dk_at dksX1_meanMatch_0 1 rfl rfl)
theorem dX1_meanMatch_4 : decode cX1_meanMatch 4 = .ok (.invokevirtual 126, 3) := dk_182 0 126 (dk_at dksX1_meanMatch_0 4 rfl rfl)
theorem dX1_meanMatch_7 : decode cX1_meanMatch 7 = .ok (.ifCond .ne 7, 3) := dk_154 0 7 (dk_at dksX1_meanMatch_0 7 rfl rfl)
theorem dX1_meanMatch_10 : decode cX1_meanMatch 10 = .ok (.dconst 0, 1) := dk_14 (dk_at dksX1_meanMatch_0 10 rfl rfl)
theorem dX1_meanMatch_11 : decode cX1_meanMatch 11 = .ok (.goto 20, 3) := dk_167 0 20 (dk_at dksX1_meanMatch_0 11 rfl rfl)
theorem dX1_meanMatch_14 : decode cX1_meanMatch 14 = .ok (.aload_n 0, 1) := dk_42 (dk_at dksX1_meanMatch_0 14 rfl rfl)
theorem dX1_meanMatch_15 : decode cX1_meanMatch 15 = .ok (.getfield 50, 3) := dk_180 0 50 (dk_at dksX1_meanMatch_0 15 rfl rfl)
theorem dX1_meanMatch_18 : decode cX1_meanMatch 18 = .ok (.invokevirtual 240, 3) := dk_182 0 240 (dk_at dksX1_meanMatch_0 18 rfl rfl)
theorem dX1_meanMatch_21 : decode cX1_meanMatch 21 = .ok (.i2d, 1) := dk_135 (dk_at dksX1_meanMatch_0 21 rfl rfl)
theorem dX1_meanMatch_22 : decode cX1_meanMatch 22 = .ok (.aload_n 0, 1) := dk_42 (dk_at dksX1_meanMatch_0 22 rfl rfl)
theorem dX1_meanMatch_23 : decode cX1_meanMatch 23 = .ok (.getfield 50, 3) := dk_180 0 50 (dk_at dksX1_meanMatch_1 0 rfl rfl)
theorem dX1_meanMatch_26 : decode cX1_meanMatch 26 = .ok (.invokevirtual 126, 3) := dk_182 0 126 (dk_at dksX1_meanMatch_1 3 rfl rfl)
theorem dX1_meanMatch_29 : decode cX1_meanMatch 29 = .ok (.i2d, 1) := dk_135 (dk_at dksX1_meanMatch_1 6 rfl rfl)
theorem dX1_meanMatch_30 : decode cX1_meanMatch 30 = .ok (.ddiv, 1) := dk_111 (dk_at dksX1_meanMatch_1 7 rfl rfl)
theorem dX1_meanMatch_31 : decode cX1_meanMatch 31 = .ok (.dreturn, 1) := dk_175 (dk_at dksX1_meanMatch_1 8 rfl rfl)
abbrev cX1_digest : ByteArray := prog_1_method_50_code
def yX1_digest : MethodName := ⟨RX1, "digest", "()J"⟩
def dkwX1_digest_12 : List UInt8 := [184, 1, 10, 133, 97, 64, 132, 4, 1, 167, 255, 165, 31, 173]
abbrev dktX1_digest_12 : List UInt8 := dkwX1_digest_12 ++ []
def dkwX1_digest_11 : List UInt8 := [20, 1, 6, 105, 42, 21, 4, 182, 1, 14, 133, 97, 64, 31, 20, 1, 6, 105, 42, 21, 4, 182, 1, 17]
abbrev dktX1_digest_11 : List UInt8 := dkwX1_digest_11 ++ dktX1_digest_12
def dkwX1_digest_10 : List UInt8 := [180, 0, 169, 21, 4, 182, 0, 163, 192, 0, 164, 182, 0, 166, 167, 0, 4, 2, 133, 97, 64, 31]
abbrev dktX1_digest_10 : List UInt8 := dkwX1_digest_10 ++ dktX1_digest_11
def dkwX1_digest_9 : List UInt8 := [162, 0, 82, 31, 20, 1, 6, 105, 42, 180, 0, 50, 21, 4, 182, 0, 110, 153, 0, 24, 42, 180, 0, 50]
abbrev dktX1_digest_9 : List UInt8 := dkwX1_digest_9 ++ dktX1_digest_10
def dkwX1_digest_8 : List UInt8 := [97, 64, 132, 4, 1, 167, 255, 190, 3, 54, 4, 21, 4, 42, 180, 0, 50, 180, 0, 96, 182, 0, 100]
abbrev dktX1_digest_8 : List UInt8 := dkwX1_digest_8 ++ dktX1_digest_9
def dkwX1_digest_7 : List UInt8 := [42, 21, 4, 182, 1, 8, 133, 97, 64, 31, 20, 1, 6, 105, 42, 21, 4, 182, 1, 9, 184, 1, 10, 133]
abbrev dktX1_digest_7 : List UInt8 := dkwX1_digest_7 ++ dktX1_digest_8
def dkwX1_digest_6 : List UInt8 := [20, 1, 6, 105, 42, 180, 0, 50, 180, 0, 144, 21, 4, 46, 133, 97, 10, 101, 64, 31, 20, 1, 6, 105]
abbrev dktX1_digest_6 : List UInt8 := dkwX1_digest_6 ++ dktX1_digest_7
def dkwX1_digest_5 : List UInt8 := [132, 6, 1, 167, 255, 229, 3, 54, 4, 21, 4, 42, 180, 0, 50, 182, 0, 103, 162, 0, 60, 31]
abbrev dktX1_digest_5 : List UInt8 := dkwX1_digest_5 ++ dktX1_digest_6
def dkwX1_digest_4 : List UInt8 := [21, 6, 21, 5, 162, 0, 26, 25, 4, 21, 6, 46, 54, 7, 31, 20, 1, 6, 105, 21, 7, 133, 97, 64]
abbrev dktX1_digest_4 : List UInt8 := dkwX1_digest_4 ++ dktX1_digest_5
def dkwX1_digest_3 : List UInt8 := [182, 1, 4, 79, 89, 16, 9, 42, 182, 1, 5, 79, 78, 45, 58, 4, 25, 4, 190, 54, 5, 3, 54, 6]
abbrev dktX1_digest_3 : List UInt8 := dkwX1_digest_3 ++ dktX1_digest_4
def dkwX1_digest_2 : List UInt8 := [182, 1, 1, 79, 89, 16, 6, 42, 182, 1, 2, 79, 89, 16, 7, 42, 182, 1, 3, 79, 89, 16, 8, 42]
abbrev dktX1_digest_2 : List UInt8 := dkwX1_digest_2 ++ dktX1_digest_3
def dkwX1_digest_1 : List UInt8 := [42, 182, 0, 249, 79, 89, 6, 42, 182, 0, 251, 79, 89, 7, 42, 182, 0, 254, 79, 89, 8, 42]
abbrev dktX1_digest_1 : List UInt8 := dkwX1_digest_1 ++ dktX1_digest_2
def dkwX1_digest_0 : List UInt8 := [20, 0, 243, 64, 16, 10, 188, 10, 89, 3, 42, 182, 0, 245, 79, 89, 4, 42, 182, 0, 247, 79, 89, 5]
abbrev dktX1_digest_0 : List UInt8 := dkwX1_digest_0 ++ dktX1_digest_1
theorem dksX1_digest_0 : cX1_digest.data.toList.drop 0 = dktX1_digest_0 := by decide +kernel
theorem dksX1_digest_1 : cX1_digest.data.toList.drop 24 = dktX1_digest_1 := dk_seg dksX1_digest_0 24 rfl rfl
theorem dksX1_digest_2 : cX1_digest.data.toList.drop 46 = dktX1_digest_2 := dk_seg dksX1_digest_1 22 rfl rfl
theorem dksX1_digest_3 : cX1_digest.data.toList.drop 70 = dktX1_digest_3 := dk_seg dksX1_digest_2 24 rfl rfl
theorem dksX1_digest_4 : cX1_digest.data.toList.drop 94 = dktX1_digest_4 := dk_seg dksX1_digest_3 24 rfl rfl
theorem dksX1_digest_5 : cX1_digest.data.toList.drop 118 = dktX1_digest_5 := dk_seg dksX1_digest_4 24 rfl rfl
theorem dksX1_digest_6 : cX1_digest.data.toList.drop 140 = dktX1_digest_6 := dk_seg dksX1_digest_5 22 rfl rfl
theorem dksX1_digest_7 : cX1_digest.data.toList.drop 164 = dktX1_digest_7 := dk_seg dksX1_digest_6 24 rfl rfl
theorem dksX1_digest_8 : cX1_digest.data.toList.drop 188 = dktX1_digest_8 := dk_seg dksX1_digest_7 24 rfl rfl
theorem dksX1_digest_9 : cX1_digest.data.toList.drop 211 = dktX1_digest_9 := dk_seg dksX1_digest_8 23 rfl rfl
theorem dksX1_digest_10 : cX1_digest.data.toList.drop 235 = dktX1_digest_10 := dk_seg dksX1_digest_9 24 rfl rfl
theorem dksX1_digest_11 : cX1_digest.data.toList.drop 257 = dktX1_digest_11 := dk_seg dksX1_digest_10 22 rfl rfl
theorem dksX1_digest_12 : cX1_digest.data.toList.drop 281 = dktX1_digest_12 := dk_seg dksX1_digest_11 24 rfl rfl
theorem dX1_digest_0 : decode cX1_digest 0 = .ok (.ldc2_w 243, 3) := dk_20 0 243 (dk_at dksX1_digest_0 0 rfl rfl)
theorem dX1_digest_3 : decode cX1_digest 3 = .ok (.lstore_n 1, 1) := dk_64 (dk_at dksX1_digest_0 3 rfl rfl)
theorem dX1_digest_4 : decode cX1_digest 4 = .ok (.bipush 10, 2) := dk_16 10 (dk_at dksX1_digest_0 4 rfl rfl)
theorem dX1_digest_6 : decode cX1_digest 6 = .ok (.newarray .int, 2) := dk_188_10 (dk_at dksX1_digest_0 6 rfl rfl)
theorem dX1_digest_8 : decode cX1_digest 8 = .ok (.dup, 1) := dk_89 (dk_at dksX1_digest_0 8 rfl rfl)
theorem dX1_digest_9 : decode cX1_digest 9 = .ok (.iconst 0, 1) := dk_3 (dk_at dksX1_digest_0 9 rfl rfl)
theorem dX1_digest_10 : decode cX1_digest 10 = .ok (.aload_n 0, 1) := dk_42 (dk_at dksX1_digest_0 10 rfl rfl)
theorem dX1_digest_11 : decode cX1_digest 11 = .ok (.invokevirtual 245, 3) := dk_182 0 245 (dk_at dksX1_digest_0 11 rfl rfl)
theorem dX1_digest_14 : decode cX1_digest 14 = .ok (.iastore, 1) := dk_79 (dk_at dksX1_digest_0 14 rfl rfl)
theorem dX1_digest_15 : decode cX1_digest 15 = .ok (.dup, 1) := dk_89 (dk_at dksX1_digest_0 15 rfl rfl)
theorem dX1_digest_16 : decode cX1_digest 16 = .ok (.iconst 1, 1) := dk_4 (dk_at dksX1_digest_0 16 rfl rfl)
theorem dX1_digest_17 : decode cX1_digest 17 = .ok (.aload_n 0, 1) := dk_42 (dk_at dksX1_digest_0 17 rfl rfl)
theorem dX1_digest_18 : decode cX1_digest 18 = .ok (.invokevirtual 247, 3) := dk_182 0 247 (dk_at dksX1_digest_0 18 rfl rfl)
theorem dX1_digest_21 : decode cX1_digest 21 = .ok (.iastore, 1) := dk_79 (dk_at dksX1_digest_0 21 rfl rfl)
theorem dX1_digest_22 : decode cX1_digest 22 = .ok (.dup, 1) := dk_89 (dk_at dksX1_digest_0 22 rfl rfl)
theorem dX1_digest_23 : decode cX1_digest 23 = .ok (.iconst 2, 1) := dk_5 (dk_at dksX1_digest_0 23 rfl rfl)
theorem dX1_digest_24 : decode cX1_digest 24 = .ok (.aload_n 0, 1) := dk_42 (dk_at dksX1_digest_1 0 rfl rfl)
theorem dX1_digest_25 : decode cX1_digest 25 = .ok (.invokevirtual 249, 3) := dk_182 0 249 (dk_at dksX1_digest_1 1 rfl rfl)
theorem dX1_digest_28 : decode cX1_digest 28 = .ok (.iastore, 1) := dk_79 (dk_at dksX1_digest_1 4 rfl rfl)
theorem dX1_digest_29 : decode cX1_digest 29 = .ok (.dup, 1) := dk_89 (dk_at dksX1_digest_1 5 rfl rfl)
theorem dX1_digest_30 : decode cX1_digest 30 = .ok (.iconst 3, 1) := dk_6 (dk_at dksX1_digest_1 6 rfl rfl)
theorem dX1_digest_31 : decode cX1_digest 31 = .ok (.aload_n 0, 1) := dk_42 (dk_at dksX1_digest_1 7 rfl rfl)
theorem dX1_digest_32 : decode cX1_digest 32 = .ok (.invokevirtual 251, 3) := dk_182 0 251 (dk_at dksX1_digest_1 8 rfl rfl)
theorem dX1_digest_35 : decode cX1_digest 35 = .ok (.iastore, 1) := dk_79 (dk_at dksX1_digest_1 11 rfl rfl)
theorem dX1_digest_36 : decode cX1_digest 36 = .ok (.dup, 1) := dk_89 (dk_at dksX1_digest_1 12 rfl rfl)
theorem dX1_digest_37 : decode cX1_digest 37 = .ok (.iconst 4, 1) := dk_7 (dk_at dksX1_digest_1 13 rfl rfl)
theorem dX1_digest_38 : decode cX1_digest 38 = .ok (.aload_n 0, 1) := dk_42 (dk_at dksX1_digest_1 14 rfl rfl)
theorem dX1_digest_39 : decode cX1_digest 39 = .ok (.invokevirtual 254, 3) := dk_182 0 254 (dk_at dksX1_digest_1 15 rfl rfl)
theorem dX1_digest_42 : decode cX1_digest 42 = .ok (.iastore, 1) := dk_79 (dk_at dksX1_digest_1 18 rfl rfl)
theorem dX1_digest_43 : decode cX1_digest 43 = .ok (.dup, 1) := dk_89 (dk_at dksX1_digest_1 19 rfl rfl)
theorem dX1_digest_44 : decode cX1_digest 44 = .ok (.iconst 5, 1) := dk_8 (dk_at dksX1_digest_1 20 rfl rfl)
theorem dX1_digest_45 : decode cX1_digest 45 = .ok (.aload_n 0, 1) := dk_42 (dk_at dksX1_digest_1 21 rfl rfl)
theorem dX1_digest_46 : decode cX1_digest 46 = .ok (.invokevirtual 257, 3) := dk_182 1 1 (dk_at dksX1_digest_2 0 rfl rfl)
theorem dX1_digest_49 : decode cX1_digest 49 = .ok (.iastore, 1) := dk_79 (dk_at dksX1_digest_2 3 rfl rfl)
theorem dX1_digest_50 : decode cX1_digest 50 = .ok (.dup, 1) := dk_89 (dk_at dksX1_digest_2 4 rfl rfl)
theorem dX1_digest_51 : decode cX1_digest 51 = .ok (.bipush 6, 2) := dk_16 6 (dk_at dksX1_digest_2 5 rfl rfl)
theorem dX1_digest_53 : decode cX1_digest 53 = .ok (.aload_n 0, 1) := dk_42 (dk_at dksX1_digest_2 7 rfl rfl)
theorem dX1_digest_54 : decode cX1_digest 54 = .ok (.invokevirtual 258, 3) := dk_182 1 2 (dk_at dksX1_digest_2 8 rfl rfl)
theorem dX1_digest_57 : decode cX1_digest 57 = .ok (.iastore, 1) := dk_79 (dk_at dksX1_digest_2 11 rfl rfl)
theorem dX1_digest_58 : decode cX1_digest 58 = .ok (.dup, 1) := dk_89 (dk_at dksX1_digest_2 12 rfl rfl)
theorem dX1_digest_59 : decode cX1_digest 59 = .ok (.bipush 7, 2) := dk_16 7 (dk_at dksX1_digest_2 13 rfl rfl)
theorem dX1_digest_61 : decode cX1_digest 61 = .ok (.aload_n 0, 1) := dk_42 (dk_at dksX1_digest_2 15 rfl rfl)
theorem dX1_digest_62 : decode cX1_digest 62 = .ok (.invokevirtual 259, 3) := dk_182 1 3 (dk_at dksX1_digest_2 16 rfl rfl)
theorem dX1_digest_65 : decode cX1_digest 65 = .ok (.iastore, 1) := dk_79 (dk_at dksX1_digest_2 19 rfl rfl)
theorem dX1_digest_66 : decode cX1_digest 66 = .ok (.dup, 1) := dk_89 (dk_at dksX1_digest_2 20 rfl rfl)
theorem dX1_digest_67 : decode cX1_digest 67 = .ok (.bipush 8, 2) := dk_16 8 (dk_at dksX1_digest_2 21 rfl rfl)
theorem dX1_digest_69 : decode cX1_digest 69 = .ok (.aload_n 0, 1) := dk_42 (dk_at dksX1_digest_2 23 rfl rfl)
theorem dX1_digest_70 : decode cX1_digest 70 = .ok (.invokevirtual 260, 3) := dk_182 1 4 (dk_at dksX1_digest_3 0 rfl rfl)
theorem dX1_digest_73 : decode cX1_digest 73 = .ok (.iastore, 1) := dk_79 (dk_at dksX1_digest_3 3 rfl rfl)
theorem dX1_digest_74 : decode cX1_digest 74 = .ok (.dup, 1) := dk_89 (dk_at dksX1_digest_3 4 rfl rfl)
theorem dX1_digest_75 : decode cX1_digest 75 = .ok (.bipush 9, 2) := dk_16 9 (dk_at dksX1_digest_3 5 rfl rfl)
theorem dX1_digest_77 : decode cX1_digest 77 = .ok (.aload_n 0, 1) := dk_42 (dk_at dksX1_digest_3 7 rfl rfl)
theorem dX1_digest_78 : decode cX1_digest 78 = .ok (.invokevirtual 261, 3) := dk_182 1 5 (dk_at dksX1_digest_3 8 rfl rfl)
theorem dX1_digest_81 : decode cX1_digest 81 = .ok (.iastore, 1) := dk_79 (dk_at dksX1_digest_3 11 rfl rfl)
theorem dX1_digest_82 : decode cX1_digest 82 = .ok (.astore_n 3, 1) := dk_78 (dk_at dksX1_digest_3 12 rfl rfl)
theorem dX1_digest_83 : decode cX1_digest 83 = .ok (.aload_n 3, 1) := dk_45 (dk_at dksX1_digest_3 13 rfl rfl)
theorem dX1_digest_84 : decode cX1_digest 84 = .ok (.astore 4, 2) := dk_58 4 (dk_at dksX1_digest_3 14 rfl rfl)
theorem dX1_digest_86 : decode cX1_digest 86 = .ok (.aload 4, 2) := dk_25 4 (dk_at dksX1_digest_3 16 rfl rfl)
theorem dX1_digest_88 : decode cX1_digest 88 = .ok (.arraylength, 1) := dk_190 (dk_at dksX1_digest_3 18 rfl rfl)
theorem dX1_digest_89 : decode cX1_digest 89 = .ok (.istore 5, 2) := dk_54 5 (dk_at dksX1_digest_3 19 rfl rfl)
theorem dX1_digest_91 : decode cX1_digest 91 = .ok (.iconst 0, 1) := dk_3 (dk_at dksX1_digest_3 21 rfl rfl)
theorem dX1_digest_92 : decode cX1_digest 92 = .ok (.istore 6, 2) := dk_54 6 (dk_at dksX1_digest_3 22 rfl rfl)
theorem dX1_digest_94 : decode cX1_digest 94 = .ok (.iload 6, 2) := dk_21 6 (dk_at dksX1_digest_4 0 rfl rfl)
theorem dX1_digest_96 : decode cX1_digest 96 = .ok (.iload 5, 2) := dk_21 5 (dk_at dksX1_digest_4 2 rfl rfl)
theorem dX1_digest_98 : decode cX1_digest 98 = .ok (.if_icmp .ge 26, 3) := dk_162 0 26 (dk_at dksX1_digest_4 4 rfl rfl)
theorem dX1_digest_101 : decode cX1_digest 101 = .ok (.aload 4, 2) := dk_25 4 (dk_at dksX1_digest_4 7 rfl rfl)
theorem dX1_digest_103 : decode cX1_digest 103 = .ok (.iload 6, 2) := dk_21 6 (dk_at dksX1_digest_4 9 rfl rfl)
theorem dX1_digest_105 : decode cX1_digest 105 = .ok (.iaload, 1) := dk_46 (dk_at dksX1_digest_4 11 rfl rfl)
theorem dX1_digest_106 : decode cX1_digest 106 = .ok (.istore 7, 2) := dk_54 7 (dk_at dksX1_digest_4 12 rfl rfl)
theorem dX1_digest_108 : decode cX1_digest 108 = .ok (.lload_n 1, 1) := dk_31 (dk_at dksX1_digest_4 14 rfl rfl)
theorem dX1_digest_109 : decode cX1_digest 109 = .ok (.ldc2_w 262, 3) := dk_20 1 6 (dk_at dksX1_digest_4 15 rfl rfl)
theorem dX1_digest_112 : decode cX1_digest 112 = .ok (.lmul, 1) := dk_105 (dk_at dksX1_digest_4 18 rfl rfl)
theorem dX1_digest_113 : decode cX1_digest 113 = .ok (.iload 7, 2) := dk_21 7 (dk_at dksX1_digest_4 19 rfl rfl)
theorem dX1_digest_115 : decode cX1_digest 115 = .ok (.i2l, 1) := dk_133 (dk_at dksX1_digest_4 21 rfl rfl)
theorem dX1_digest_116 : decode cX1_digest 116 = .ok (.ladd, 1) := dk_97 (dk_at dksX1_digest_4 22 rfl rfl)
theorem dX1_digest_117 : decode cX1_digest 117 = .ok (.lstore_n 1, 1) := dk_64 (dk_at dksX1_digest_4 23 rfl rfl)
theorem dX1_digest_118 : decode cX1_digest 118 = .ok (.iinc 6 1, 3) := dk_132 6 1 (dk_at dksX1_digest_5 0 rfl rfl)
theorem dX1_digest_121 : decode cX1_digest 121 = .ok (.goto (-27), 3) := dk_167 255 229 (dk_at dksX1_digest_5 3 rfl rfl)
theorem dX1_digest_124 : decode cX1_digest 124 = .ok (.iconst 0, 1) := dk_3 (dk_at dksX1_digest_5 6 rfl rfl)
theorem dX1_digest_125 : decode cX1_digest 125 = .ok (.istore 4, 2) := dk_54 4 (dk_at dksX1_digest_5 7 rfl rfl)
theorem dX1_digest_127 : decode cX1_digest 127 = .ok (.iload 4, 2) := dk_21 4 (dk_at dksX1_digest_5 9 rfl rfl)
theorem dX1_digest_129 : decode cX1_digest 129 = .ok (.aload_n 0, 1) := dk_42 (dk_at dksX1_digest_5 11 rfl rfl)
theorem dX1_digest_130 : decode cX1_digest 130 = .ok (.getfield 50, 3) := dk_180 0 50 (dk_at dksX1_digest_5 12 rfl rfl)
theorem dX1_digest_133 : decode cX1_digest 133 = .ok (.invokevirtual 103, 3) := dk_182 0 103 (dk_at dksX1_digest_5 15 rfl rfl)
theorem dX1_digest_136 : decode cX1_digest 136 = .ok (.if_icmp .ge 60, 3) := dk_162 0 60 (dk_at dksX1_digest_5 18 rfl rfl)
theorem dX1_digest_139 : decode cX1_digest 139 = .ok (.lload_n 1, 1) := dk_31 (dk_at dksX1_digest_5 21 rfl rfl)
theorem dX1_digest_140 : decode cX1_digest 140 = .ok (.ldc2_w 262, 3) := dk_20 1 6 (dk_at dksX1_digest_6 0 rfl rfl)
theorem dX1_digest_143 : decode cX1_digest 143 = .ok (.lmul, 1) := dk_105 (dk_at dksX1_digest_6 3 rfl rfl)
theorem dX1_digest_144 : decode cX1_digest 144 = .ok (.aload_n 0, 1) := dk_42 (dk_at dksX1_digest_6 4 rfl rfl)
theorem dX1_digest_145 : decode cX1_digest 145 = .ok (.getfield 50, 3) := dk_180 0 50 (dk_at dksX1_digest_6 5 rfl rfl)
theorem dX1_digest_148 : decode cX1_digest 148 = .ok (.getfield 144, 3) := dk_180 0 144 (dk_at dksX1_digest_6 8 rfl rfl)
theorem dX1_digest_151 : decode cX1_digest 151 = .ok (.iload 4, 2) := dk_21 4 (dk_at dksX1_digest_6 11 rfl rfl)
theorem dX1_digest_153 : decode cX1_digest 153 = .ok (.iaload, 1) := dk_46 (dk_at dksX1_digest_6 13 rfl rfl)
theorem dX1_digest_154 : decode cX1_digest 154 = .ok (.i2l, 1) := dk_133 (dk_at dksX1_digest_6 14 rfl rfl)
theorem dX1_digest_155 : decode cX1_digest 155 = .ok (.ladd, 1) := dk_97 (dk_at dksX1_digest_6 15 rfl rfl)
theorem dX1_digest_156 : decode cX1_digest 156 = .ok (.lconst 1, 1) := dk_10 (dk_at dksX1_digest_6 16 rfl rfl)
theorem dX1_digest_157 : decode cX1_digest 157 = .ok (.lsub, 1) := dk_101 (dk_at dksX1_digest_6 17 rfl rfl)
theorem dX1_digest_158 : decode cX1_digest 158 = .ok (.lstore_n 1, 1) := dk_64 (dk_at dksX1_digest_6 18 rfl rfl)
theorem dX1_digest_159 : decode cX1_digest 159 = .ok (.lload_n 1, 1) := dk_31 (dk_at dksX1_digest_6 19 rfl rfl)
theorem dX1_digest_160 : decode cX1_digest 160 = .ok (.ldc2_w 262, 3) := dk_20 1 6 (dk_at dksX1_digest_6 20 rfl rfl)
theorem dX1_digest_163 : decode cX1_digest 163 = .ok (.lmul, 1) := dk_105 (dk_at dksX1_digest_6 23 rfl rfl)
theorem dX1_digest_164 : decode cX1_digest 164 = .ok (.aload_n 0, 1) := dk_42 (dk_at dksX1_digest_7 0 rfl rfl)
theorem dX1_digest_165 : decode cX1_digest 165 = .ok (.iload 4, 2) := dk_21 4 (dk_at dksX1_digest_7 1 rfl rfl)
theorem dX1_digest_167 : decode cX1_digest 167 = .ok (.invokevirtual 264, 3) := dk_182 1 8 (dk_at dksX1_digest_7 3 rfl rfl)
theorem dX1_digest_170 : decode cX1_digest 170 = .ok (.i2l, 1) := dk_133 (dk_at dksX1_digest_7 6 rfl rfl)
theorem dX1_digest_171 : decode cX1_digest 171 = .ok (.ladd, 1) := dk_97 (dk_at dksX1_digest_7 7 rfl rfl)
theorem dX1_digest_172 : decode cX1_digest 172 = .ok (.lstore_n 1, 1) := dk_64 (dk_at dksX1_digest_7 8 rfl rfl)
theorem dX1_digest_173 : decode cX1_digest 173 = .ok (.lload_n 1, 1) := dk_31 (dk_at dksX1_digest_7 9 rfl rfl)
theorem dX1_digest_174 : decode cX1_digest 174 = .ok (.ldc2_w 262, 3) := dk_20 1 6 (dk_at dksX1_digest_7 10 rfl rfl)
theorem dX1_digest_177 : decode cX1_digest 177 = .ok (.lmul, 1) := dk_105 (dk_at dksX1_digest_7 13 rfl rfl)
theorem dX1_digest_178 : decode cX1_digest 178 = .ok (.aload_n 0, 1) := dk_42 (dk_at dksX1_digest_7 14 rfl rfl)
theorem dX1_digest_179 : decode cX1_digest 179 = .ok (.iload 4, 2) := dk_21 4 (dk_at dksX1_digest_7 15 rfl rfl)
theorem dX1_digest_181 : decode cX1_digest 181 = .ok (.invokevirtual 265, 3) := dk_182 1 9 (dk_at dksX1_digest_7 17 rfl rfl)
theorem dX1_digest_184 : decode cX1_digest 184 = .ok (.invokestatic 266, 3) := dk_184 1 10 (dk_at dksX1_digest_7 20 rfl rfl)
theorem dX1_digest_187 : decode cX1_digest 187 = .ok (.i2l, 1) := dk_133 (dk_at dksX1_digest_7 23 rfl rfl)
theorem dX1_digest_188 : decode cX1_digest 188 = .ok (.ladd, 1) := dk_97 (dk_at dksX1_digest_8 0 rfl rfl)
theorem dX1_digest_189 : decode cX1_digest 189 = .ok (.lstore_n 1, 1) := dk_64 (dk_at dksX1_digest_8 1 rfl rfl)
theorem dX1_digest_190 : decode cX1_digest 190 = .ok (.iinc 4 1, 3) := dk_132 4 1 (dk_at dksX1_digest_8 2 rfl rfl)
theorem dX1_digest_193 : decode cX1_digest 193 = .ok (.goto (-66), 3) := dk_167 255 190 (dk_at dksX1_digest_8 5 rfl rfl)
theorem dX1_digest_196 : decode cX1_digest 196 = .ok (.iconst 0, 1) := dk_3 (dk_at dksX1_digest_8 8 rfl rfl)
theorem dX1_digest_197 : decode cX1_digest 197 = .ok (.istore 4, 2) := dk_54 4 (dk_at dksX1_digest_8 9 rfl rfl)
theorem dX1_digest_199 : decode cX1_digest 199 = .ok (.iload 4, 2) := dk_21 4 (dk_at dksX1_digest_8 11 rfl rfl)
theorem dX1_digest_201 : decode cX1_digest 201 = .ok (.aload_n 0, 1) := dk_42 (dk_at dksX1_digest_8 13 rfl rfl)
theorem dX1_digest_202 : decode cX1_digest 202 = .ok (.getfield 50, 3) := dk_180 0 50 (dk_at dksX1_digest_8 14 rfl rfl)
theorem dX1_digest_205 : decode cX1_digest 205 = .ok (.getfield 96, 3) := dk_180 0 96 (dk_at dksX1_digest_8 17 rfl rfl)
theorem dX1_digest_208 : decode cX1_digest 208 = .ok (.invokevirtual 100, 3) := dk_182 0 100 (dk_at dksX1_digest_8 20 rfl rfl)
theorem dX1_digest_211 : decode cX1_digest 211 = .ok (.if_icmp .ge 82, 3) := dk_162 0 82 (dk_at dksX1_digest_9 0 rfl rfl)
theorem dX1_digest_214 : decode cX1_digest 214 = .ok (.lload_n 1, 1) := dk_31 (dk_at dksX1_digest_9 3 rfl rfl)
theorem dX1_digest_215 : decode cX1_digest 215 = .ok (.ldc2_w 262, 3) := dk_20 1 6 (dk_at dksX1_digest_9 4 rfl rfl)
theorem dX1_digest_218 : decode cX1_digest 218 = .ok (.lmul, 1) := dk_105 (dk_at dksX1_digest_9 7 rfl rfl)
theorem dX1_digest_219 : decode cX1_digest 219 = .ok (.aload_n 0, 1) := dk_42 (dk_at dksX1_digest_9 8 rfl rfl)
theorem dX1_digest_220 : decode cX1_digest 220 = .ok (.getfield 50, 3) := dk_180 0 50 (dk_at dksX1_digest_9 9 rfl rfl)
theorem dX1_digest_223 : decode cX1_digest 223 = .ok (.iload 4, 2) := dk_21 4 (dk_at dksX1_digest_9 12 rfl rfl)
theorem dX1_digest_225 : decode cX1_digest 225 = .ok (.invokevirtual 110, 3) := dk_182 0 110 (dk_at dksX1_digest_9 14 rfl rfl)
theorem dX1_digest_228 : decode cX1_digest 228 = .ok (.ifCond .eq 24, 3) := dk_153 0 24 (dk_at dksX1_digest_9 17 rfl rfl)
theorem dX1_digest_231 : decode cX1_digest 231 = .ok (.aload_n 0, 1) := dk_42 (dk_at dksX1_digest_9 20 rfl rfl)
theorem dX1_digest_232 : decode cX1_digest 232 = .ok (.getfield 50, 3) := dk_180 0 50 (dk_at dksX1_digest_9 21 rfl rfl)
theorem dX1_digest_235 : decode cX1_digest 235 = .ok (.getfield 169, 3) := dk_180 0 169 (dk_at dksX1_digest_10 0 rfl rfl)
theorem dX1_digest_238 : decode cX1_digest 238 = .ok (.iload 4, 2) := dk_21 4 (dk_at dksX1_digest_10 3 rfl rfl)
theorem dX1_digest_240 : decode cX1_digest 240 = .ok (.invokevirtual 163, 3) := dk_182 0 163 (dk_at dksX1_digest_10 5 rfl rfl)
theorem dX1_digest_243 : decode cX1_digest 243 = .ok (.checkcast 164, 3) := dk_192 0 164 (dk_at dksX1_digest_10 8 rfl rfl)
theorem dX1_digest_246 : decode cX1_digest 246 = .ok (.invokevirtual 166, 3) := dk_182 0 166 (dk_at dksX1_digest_10 11 rfl rfl)
theorem dX1_digest_249 : decode cX1_digest 249 = .ok (.goto 4, 3) := dk_167 0 4 (dk_at dksX1_digest_10 14 rfl rfl)
theorem dX1_digest_252 : decode cX1_digest 252 = .ok (.iconst (-1), 1) := dk_2 (dk_at dksX1_digest_10 17 rfl rfl)
theorem dX1_digest_253 : decode cX1_digest 253 = .ok (.i2l, 1) := dk_133 (dk_at dksX1_digest_10 18 rfl rfl)
theorem dX1_digest_254 : decode cX1_digest 254 = .ok (.ladd, 1) := dk_97 (dk_at dksX1_digest_10 19 rfl rfl)
theorem dX1_digest_255 : decode cX1_digest 255 = .ok (.lstore_n 1, 1) := dk_64 (dk_at dksX1_digest_10 20 rfl rfl)
theorem dX1_digest_256 : decode cX1_digest 256 = .ok (.lload_n 1, 1) := dk_31 (dk_at dksX1_digest_10 21 rfl rfl)
theorem dX1_digest_257 : decode cX1_digest 257 = .ok (.ldc2_w 262, 3) := dk_20 1 6 (dk_at dksX1_digest_11 0 rfl rfl)
theorem dX1_digest_260 : decode cX1_digest 260 = .ok (.lmul, 1) := dk_105 (dk_at dksX1_digest_11 3 rfl rfl)
theorem dX1_digest_261 : decode cX1_digest 261 = .ok (.aload_n 0, 1) := dk_42 (dk_at dksX1_digest_11 4 rfl rfl)
theorem dX1_digest_262 : decode cX1_digest 262 = .ok (.iload 4, 2) := dk_21 4 (dk_at dksX1_digest_11 5 rfl rfl)
theorem dX1_digest_264 : decode cX1_digest 264 = .ok (.invokevirtual 270, 3) := dk_182 1 14 (dk_at dksX1_digest_11 7 rfl rfl)
theorem dX1_digest_267 : decode cX1_digest 267 = .ok (.i2l, 1) := dk_133 (dk_at dksX1_digest_11 10 rfl rfl)
theorem dX1_digest_268 : decode cX1_digest 268 = .ok (.ladd, 1) := dk_97 (dk_at dksX1_digest_11 11 rfl rfl)
theorem dX1_digest_269 : decode cX1_digest 269 = .ok (.lstore_n 1, 1) := dk_64 (dk_at dksX1_digest_11 12 rfl rfl)
theorem dX1_digest_270 : decode cX1_digest 270 = .ok (.lload_n 1, 1) := dk_31 (dk_at dksX1_digest_11 13 rfl rfl)
theorem dX1_digest_271 : decode cX1_digest 271 = .ok (.ldc2_w 262, 3) := dk_20 1 6 (dk_at dksX1_digest_11 14 rfl rfl)
theorem dX1_digest_274 : decode cX1_digest 274 = .ok (.lmul, 1) := dk_105 (dk_at dksX1_digest_11 17 rfl rfl)
theorem dX1_digest_275 : decode cX1_digest 275 = .ok (.aload_n 0, 1) := dk_42 (dk_at dksX1_digest_11 18 rfl rfl)
theorem dX1_digest_276 : decode cX1_digest 276 = .ok (.iload 4, 2) := dk_21 4 (dk_at dksX1_digest_11 19 rfl rfl)
theorem dX1_digest_278 : decode cX1_digest 278 = .ok (.invokevirtual 273, 3) := dk_182 1 17 (dk_at dksX1_digest_11 21 rfl rfl)
theorem dX1_digest_281 : decode cX1_digest 281 = .ok (.invokestatic 266, 3) := dk_184 1 10 (dk_at dksX1_digest_12 0 rfl rfl)
theorem dX1_digest_284 : decode cX1_digest 284 = .ok (.i2l, 1) := dk_133 (dk_at dksX1_digest_12 3 rfl rfl)
theorem dX1_digest_285 : decode cX1_digest 285 = .ok (.ladd, 1) := dk_97 (dk_at dksX1_digest_12 4 rfl rfl)
theorem dX1_digest_286 : decode cX1_digest 286 = .ok (.lstore_n 1, 1) := dk_64 (dk_at dksX1_digest_12 5 rfl rfl)
theorem dX1_digest_287 : decode cX1_digest 287 = .ok (.iinc 4 1, 3) := dk_132 4 1 (dk_at dksX1_digest_12 6 rfl rfl)
theorem dX1_digest_290 : decode cX1_digest 290 = .ok (.goto (-91), 3) := dk_167 255 165 (dk_at dksX1_digest_12 9 rfl rfl)
theorem dX1_digest_293 : decode cX1_digest 293 = .ok (.lload_n 1, 1) := dk_31 (dk_at dksX1_digest_12 12 rfl rfl)
theorem dX1_digest_294 : decode cX1_digest 294 = .ok (.lreturn, 1) := dk_173 (dk_at dksX1_digest_12 13 rfl rfl)
abbrev cX1_matchesOf : ByteArray := prog_1_method_28_code
def yX1_matchesOf : MethodName := ⟨RX1, "matchesOf", "(I)I"⟩
def dkwX1_matchesOf_0 : List UInt8 := [42, 180, 0, 50, 42, 27, 182, 0, 138, 182, 0, 152, 172]
abbrev dktX1_matchesOf_0 : List UInt8 := dkwX1_matchesOf_0 ++ []
theorem dksX1_matchesOf_0 : cX1_matchesOf.data.toList.drop 0 = dktX1_matchesOf_0 := by decide +kernel
theorem dX1_matchesOf_0 : decode cX1_matchesOf 0 = .ok (.aload_n 0, 1) := dk_42 (dk_at dksX1_matchesOf_0 0 rfl rfl)
theorem dX1_matchesOf_1 : decode cX1_matchesOf 1 = .ok (.getfield 50, 3) := dk_180 0 50 (dk_at dksX1_matchesOf_0 1 rfl rfl)
theorem dX1_matchesOf_4 : decode cX1_matchesOf 4 = .ok (.aload_n 0, 1) := dk_42 (dk_at dksX1_matchesOf_0 4 rfl rfl)
theorem dX1_matchesOf_5 : decode cX1_matchesOf 5 = .ok (.iload_n 1, 1) := dk_27 (dk_at dksX1_matchesOf_0 5 rfl rfl)
theorem dX1_matchesOf_6 : decode cX1_matchesOf 6 = .ok (.invokevirtual 138, 3) := dk_182 0 138 (dk_at dksX1_matchesOf_0 6 rfl rfl)
theorem dX1_matchesOf_9 : decode cX1_matchesOf 9 = .ok (.invokevirtual 152, 3) := dk_182 0 152 (dk_at dksX1_matchesOf_0 9 rfl rfl)
theorem dX1_matchesOf_12 : decode cX1_matchesOf 12 = .ok (.ireturn, 1) := dk_172 (dk_at dksX1_matchesOf_0 12 rfl rfl)
abbrev cX1_cell : ByteArray := prog_1_method_13_code
def yX1_cell : MethodName := ⟨RX1, "cell", "(I)I"⟩
def dkwX1_cell_0 : List UInt8 := [27, 42, 180, 0, 50, 182, 0, 103, 184, 0, 25, 27, 172]
abbrev dktX1_cell_0 : List UInt8 := dkwX1_cell_0 ++ []
theorem dksX1_cell_0 : cX1_cell.data.toList.drop 0 = dktX1_cell_0 := by decide +kernel
theorem dX1_cell_0 : decode cX1_cell 0 = .ok (.iload_n 1, 1) := dk_27 (dk_at dksX1_cell_0 0 rfl rfl)
theorem dX1_cell_1 : decode cX1_cell 1 = .ok (.aload_n 0, 1) := dk_42 (dk_at dksX1_cell_0 1 rfl rfl)
theorem dX1_cell_2 : decode cX1_cell 2 = .ok (.getfield 50, 3) := dk_180 0 50 (dk_at dksX1_cell_0 2 rfl rfl)
theorem dX1_cell_5 : decode cX1_cell 5 = .ok (.invokevirtual 103, 3) := dk_182 0 103 (dk_at dksX1_cell_0 5 rfl rfl)
theorem dX1_cell_8 : decode cX1_cell 8 = .ok (.invokestatic 25, 3) := dk_184 0 25 (dk_at dksX1_cell_0 8 rfl rfl)
theorem dX1_cell_11 : decode cX1_cell 11 = .ok (.iload_n 1, 1) := dk_27 (dk_at dksX1_cell_0 11 rfl rfl)
theorem dX1_cell_12 : decode cX1_cell 12 = .ok (.ireturn, 1) := dk_172 (dk_at dksX1_cell_0 12 rfl rfl)
abbrev cX1_requireIndex : ByteArray := prog_1_method_3_code
def yX1_requireIndex : MethodName := ⟨RX1, "requireIndex", "(II)V"⟩
def dkwX1_requireIndex_0 : List UInt8 := [26, 155, 0, 8, 26, 27, 161, 0, 11, 187, 0, 10, 89, 183, 0, 12, 191, 177]
abbrev dktX1_requireIndex_0 : List UInt8 := dkwX1_requireIndex_0 ++ []
theorem dksX1_requireIndex_0 : cX1_requireIndex.data.toList.drop 0 = dktX1_requireIndex_0 := by decide +kernel
theorem dX1_requireIndex_0 : decode cX1_requireIndex 0 = .ok (.iload_n 0, 1) := dk_26 (dk_at dksX1_requireIndex_0 0 rfl rfl)
theorem dX1_requireIndex_1 : decode cX1_requireIndex 1 = .ok (.ifCond .lt 8, 3) := dk_155 0 8 (dk_at dksX1_requireIndex_0 1 rfl rfl)
theorem dX1_requireIndex_4 : decode cX1_requireIndex 4 = .ok (.iload_n 0, 1) := dk_26 (dk_at dksX1_requireIndex_0 4 rfl rfl)
theorem dX1_requireIndex_5 : decode cX1_requireIndex 5 = .ok (.iload_n 1, 1) := dk_27 (dk_at dksX1_requireIndex_0 5 rfl rfl)
theorem dX1_requireIndex_6 : decode cX1_requireIndex 6 = .ok (.if_icmp .lt 11, 3) := dk_161 0 11 (dk_at dksX1_requireIndex_0 6 rfl rfl)
theorem dX1_requireIndex_9 : decode cX1_requireIndex 9 = .ok (.new 10, 3) := dk_187 0 10 (dk_at dksX1_requireIndex_0 9 rfl rfl)
theorem dX1_requireIndex_12 : decode cX1_requireIndex 12 = .ok (.dup, 1) := dk_89 (dk_at dksX1_requireIndex_0 12 rfl rfl)
theorem dX1_requireIndex_13 : decode cX1_requireIndex 13 = .ok (.invokespecial 12, 3) := dk_183 0 12 (dk_at dksX1_requireIndex_0 13 rfl rfl)
theorem dX1_requireIndex_16 : decode cX1_requireIndex 16 = .ok (.athrow, 1) := dk_191 (dk_at dksX1_requireIndex_0 16 rfl rfl)
theorem dX1_requireIndex_17 : decode cX1_requireIndex 17 = .ok (.return_, 1) := dk_177 (dk_at dksX1_requireIndex_0 17 rfl rfl)
abbrev cX1_isRing : ByteArray := prog_1_method_29_code
def yX1_isRing : MethodName := ⟨RX1, "isRing", "(I)Z"⟩
def dkwX1_isRing_0 : List UInt8 := [42, 180, 0, 50, 42, 27, 182, 0, 138, 182, 0, 155, 172]
abbrev dktX1_isRing_0 : List UInt8 := dkwX1_isRing_0 ++ []
theorem dksX1_isRing_0 : cX1_isRing.data.toList.drop 0 = dktX1_isRing_0 := by decide +kernel
theorem dX1_isRing_0 : decode cX1_isRing 0 = .ok (.aload_n 0, 1) := dk_42 (dk_at dksX1_isRing_0 0 rfl rfl)
theorem dX1_isRing_1 : decode cX1_isRing 1 = .ok (.getfield 50, 3) := dk_180 0 50 (dk_at dksX1_isRing_0 1 rfl rfl)
theorem dX1_isRing_4 : decode cX1_isRing 4 = .ok (.aload_n 0, 1) := dk_42 (dk_at dksX1_isRing_0 4 rfl rfl)
theorem dX1_isRing_5 : decode cX1_isRing 5 = .ok (.iload_n 1, 1) := dk_27 (dk_at dksX1_isRing_0 5 rfl rfl)
theorem dX1_isRing_6 : decode cX1_isRing 6 = .ok (.invokevirtual 138, 3) := dk_182 0 138 (dk_at dksX1_isRing_0 6 rfl rfl)
theorem dX1_isRing_9 : decode cX1_isRing 9 = .ok (.invokevirtual 155, 3) := dk_182 0 155 (dk_at dksX1_isRing_0 9 rfl rfl)
theorem dX1_isRing_12 : decode cX1_isRing 12 = .ok (.ireturn, 1) := dk_172 (dk_at dksX1_isRing_0 12 rfl rfl)
abbrev cX1_one : ByteArray := prog_1_method_49_code
def yX1_one : MethodName := ⟨RX1, "one", "(Z)I"⟩
def dkwX1_one_0 : List UInt8 := [26, 153, 0, 7, 4, 167, 0, 4, 3, 172]
abbrev dktX1_one_0 : List UInt8 := dkwX1_one_0 ++ []
theorem dksX1_one_0 : cX1_one.data.toList.drop 0 = dktX1_one_0 := by decide +kernel
theorem dX1_one_0 : decode cX1_one 0 = .ok (.iload_n 0, 1) := dk_26 (dk_at dksX1_one_0 0 rfl rfl)
theorem dX1_one_1 : decode cX1_one 1 = .ok (.ifCond .eq 7, 3) := dk_153 0 7 (dk_at dksX1_one_0 1 rfl rfl)
theorem dX1_one_4 : decode cX1_one 4 = .ok (.iconst 1, 1) := dk_4 (dk_at dksX1_one_0 4 rfl rfl)
theorem dX1_one_5 : decode cX1_one 5 = .ok (.goto 4, 3) := dk_167 0 4 (dk_at dksX1_one_0 5 rfl rfl)
theorem dX1_one_8 : decode cX1_one 8 = .ok (.iconst 0, 1) := dk_3 (dk_at dksX1_one_0 8 rfl rfl)
theorem dX1_one_9 : decode cX1_one 9 = .ok (.ireturn, 1) := dk_172 (dk_at dksX1_one_0 9 rfl rfl)
abbrev cX1_waysOf : ByteArray := prog_1_method_35_code
def yX1_waysOf : MethodName := ⟨RX1, "waysOf", "(I)I"⟩
def dkwX1_waysOf_0 : List UInt8 := [42, 180, 0, 50, 42, 27, 182, 0, 106, 182, 0, 183, 172]
abbrev dktX1_waysOf_0 : List UInt8 := dkwX1_waysOf_0 ++ []
theorem dksX1_waysOf_0 : cX1_waysOf.data.toList.drop 0 = dktX1_waysOf_0 := by decide +kernel
theorem dX1_waysOf_0 : decode cX1_waysOf 0 = .ok (.aload_n 0, 1) := dk_42 (dk_at dksX1_waysOf_0 0 rfl rfl)
theorem dX1_waysOf_1 : decode cX1_waysOf 1 = .ok (.getfield 50, 3) := dk_180 0 50 (dk_at dksX1_waysOf_0 1 rfl rfl)
theorem dX1_waysOf_4 : decode cX1_waysOf 4 = .ok (.aload_n 0, 1) := dk_42 (dk_at dksX1_waysOf_0 4 rfl rfl)
theorem dX1_waysOf_5 : decode cX1_waysOf 5 = .ok (.iload_n 1, 1) := dk_27 (dk_at dksX1_waysOf_0 5 rfl rfl)
theorem dX1_waysOf_6 : decode cX1_waysOf 6 = .ok (.invokevirtual 106, 3) := dk_182 0 106 (dk_at dksX1_waysOf_0 6 rfl rfl)
theorem dX1_waysOf_9 : decode cX1_waysOf 9 = .ok (.invokevirtual 183, 3) := dk_182 0 183 (dk_at dksX1_waysOf_0 9 rfl rfl)
theorem dX1_waysOf_12 : decode cX1_waysOf 12 = .ok (.ireturn, 1) := dk_172 (dk_at dksX1_waysOf_0 12 rfl rfl)
abbrev cX1_tile : ByteArray := prog_1_method_12_code
def yX1_tile : MethodName := ⟨RX1, "tile", "(I)I"⟩
def dkwX1_tile_0 : List UInt8 := [27, 42, 180, 0, 50, 180, 0, 96, 182, 0, 100, 184, 0, 25, 27, 172]
abbrev dktX1_tile_0 : List UInt8 := dkwX1_tile_0 ++ []
theorem dksX1_tile_0 : cX1_tile.data.toList.drop 0 = dktX1_tile_0 := by decide +kernel
theorem dX1_tile_0 : decode cX1_tile 0 = .ok (.iload_n 1, 1) := dk_27 (dk_at dksX1_tile_0 0 rfl rfl)
theorem dX1_tile_1 : decode cX1_tile 1 = .ok (.aload_n 0, 1) := dk_42 (dk_at dksX1_tile_0 1 rfl rfl)
theorem dX1_tile_2 : decode cX1_tile 2 = .ok (.getfield 50, 3) := dk_180 0 50 (dk_at dksX1_tile_0 2 rfl rfl)
theorem dX1_tile_5 : decode cX1_tile 5 = .ok (.getfield 96, 3) := dk_180 0 96 (dk_at dksX1_tile_0 5 rfl rfl)
theorem dX1_tile_8 : decode cX1_tile 8 = .ok (.invokevirtual 100, 3) := dk_182 0 100 (dk_at dksX1_tile_0 8 rfl rfl)
theorem dX1_tile_11 : decode cX1_tile 11 = .ok (.invokestatic 25, 3) := dk_184 0 25 (dk_at dksX1_tile_0 11 rfl rfl)
theorem dX1_tile_14 : decode cX1_tile 14 = .ok (.iload_n 1, 1) := dk_27 (dk_at dksX1_tile_0 14 rfl rfl)
theorem dX1_tile_15 : decode cX1_tile 15 = .ok (.ireturn, 1) := dk_172 (dk_at dksX1_tile_0 15 rfl rfl)
abbrev cX1_isLeftover : ByteArray := prog_1_method_36_code
def yX1_isLeftover : MethodName := ⟨RX1, "isLeftover", "(I)Z"⟩
def dkwX1_isLeftover_0 : List UInt8 := [42, 180, 0, 50, 42, 27, 182, 0, 106, 182, 0, 186, 172]
abbrev dktX1_isLeftover_0 : List UInt8 := dkwX1_isLeftover_0 ++ []
theorem dksX1_isLeftover_0 : cX1_isLeftover.data.toList.drop 0 = dktX1_isLeftover_0 := by decide +kernel
theorem dX1_isLeftover_0 : decode cX1_isLeftover 0 = .ok (.aload_n 0, 1) := dk_42 (dk_at dksX1_isLeftover_0 0 rfl rfl)
theorem dX1_isLeftover_1 : decode cX1_isLeftover 1 = .ok (.getfield 50, 3) := dk_180 0 50 (dk_at dksX1_isLeftover_0 1 rfl rfl)
theorem dX1_isLeftover_4 : decode cX1_isLeftover 4 = .ok (.aload_n 0, 1) := dk_42 (dk_at dksX1_isLeftover_0 4 rfl rfl)
theorem dX1_isLeftover_5 : decode cX1_isLeftover 5 = .ok (.iload_n 1, 1) := dk_27 (dk_at dksX1_isLeftover_0 5 rfl rfl)
theorem dX1_isLeftover_6 : decode cX1_isLeftover 6 = .ok (.invokevirtual 106, 3) := dk_182 0 106 (dk_at dksX1_isLeftover_0 6 rfl rfl)
theorem dX1_isLeftover_9 : decode cX1_isLeftover 9 = .ok (.invokevirtual 186, 3) := dk_182 0 186 (dk_at dksX1_isLeftover_0 9 rfl rfl)
theorem dX1_isLeftover_12 : decode cX1_isLeftover 12 = .ok (.ireturn, 1) := dk_172 (dk_at dksX1_isLeftover_0 12 rfl rfl)
abbrev cX1_feed : ByteArray := prog_1_method_8_code
def yX1_feed : MethodName := ⟨RX1, "feed", "(IIIII)I"⟩
def dkwX1_feed_3 : List UInt8 := [180, 0, 57, 172]
abbrev dktX1_feed_3 : List UInt8 := dkwX1_feed_3 ++ []
def dkwX1_feed_2 : List UInt8 := [42, 180, 0, 39, 21, 4, 182, 0, 62, 42, 180, 0, 39, 21, 5, 182, 0, 62, 42, 180, 0, 39]
abbrev dktX1_feed_2 : List UInt8 := dkwX1_feed_2 ++ dktX1_feed_3
def dkwX1_feed_1 : List UInt8 := [42, 180, 0, 39, 27, 182, 0, 62, 42, 180, 0, 39, 28, 182, 0, 62, 42, 180, 0, 39, 29, 182, 0, 62]
abbrev dktX1_feed_1 : List UInt8 := dkwX1_feed_1 ++ dktX1_feed_2
def dkwX1_feed_0 : List UInt8 := [42, 180, 0, 39, 180, 0, 57, 16, 20, 96, 17, 7, 208, 163, 0, 7, 4, 167, 0, 4, 3, 184, 0, 59]
abbrev dktX1_feed_0 : List UInt8 := dkwX1_feed_0 ++ dktX1_feed_1
theorem dksX1_feed_0 : cX1_feed.data.toList.drop 0 = dktX1_feed_0 := by decide +kernel
theorem dksX1_feed_1 : cX1_feed.data.toList.drop 24 = dktX1_feed_1 := dk_seg dksX1_feed_0 24 rfl rfl
theorem dksX1_feed_2 : cX1_feed.data.toList.drop 48 = dktX1_feed_2 := dk_seg dksX1_feed_1 24 rfl rfl
theorem dksX1_feed_3 : cX1_feed.data.toList.drop 70 = dktX1_feed_3 := dk_seg dksX1_feed_2 22 rfl rfl
theorem dX1_feed_0 : decode cX1_feed 0 = .ok (.aload_n 0, 1) := dk_42 (dk_at dksX1_feed_0 0 rfl rfl)
theorem dX1_feed_1 : decode cX1_feed 1 = .ok (.getfield 39, 3) := dk_180 0 39 (dk_at dksX1_feed_0 1 rfl rfl)
theorem dX1_feed_4 : decode cX1_feed 4 = .ok (.getfield 57, 3) := dk_180 0 57 (dk_at dksX1_feed_0 4 rfl rfl)
theorem dX1_feed_7 : decode cX1_feed 7 = .ok (.bipush 20, 2) := dk_16 20 (dk_at dksX1_feed_0 7 rfl rfl)
theorem dX1_feed_9 : decode cX1_feed 9 = .ok (.iadd, 1) := dk_96 (dk_at dksX1_feed_0 9 rfl rfl)
theorem dX1_feed_10 : decode cX1_feed 10 = .ok (.sipush 2000, 3) := dk_17 7 208 (dk_at dksX1_feed_0 10 rfl rfl)
theorem dX1_feed_13 : decode cX1_feed 13 = .ok (.if_icmp .gt 7, 3) := dk_163 0 7 (dk_at dksX1_feed_0 13 rfl rfl)
theorem dX1_feed_16 : decode cX1_feed 16 = .ok (.iconst 1, 1) := dk_4 (dk_at dksX1_feed_0 16 rfl rfl)
theorem dX1_feed_17 : decode cX1_feed 17 = .ok (.goto 4, 3) := dk_167 0 4 (dk_at dksX1_feed_0 17 rfl rfl)
theorem dX1_feed_20 : decode cX1_feed 20 = .ok (.iconst 0, 1) := dk_3 (dk_at dksX1_feed_0 20 rfl rfl)
theorem dX1_feed_21 : decode cX1_feed 21 = .ok (.invokestatic 59, 3) := dk_184 0 59 (dk_at dksX1_feed_0 21 rfl rfl)
theorem dX1_feed_24 : decode cX1_feed 24 = .ok (.aload_n 0, 1) := dk_42 (dk_at dksX1_feed_1 0 rfl rfl)
theorem dX1_feed_25 : decode cX1_feed 25 = .ok (.getfield 39, 3) := dk_180 0 39 (dk_at dksX1_feed_1 1 rfl rfl)
theorem dX1_feed_28 : decode cX1_feed 28 = .ok (.iload_n 1, 1) := dk_27 (dk_at dksX1_feed_1 4 rfl rfl)
theorem dX1_feed_29 : decode cX1_feed 29 = .ok (.invokevirtual 62, 3) := dk_182 0 62 (dk_at dksX1_feed_1 5 rfl rfl)
theorem dX1_feed_32 : decode cX1_feed 32 = .ok (.aload_n 0, 1) := dk_42 (dk_at dksX1_feed_1 8 rfl rfl)
theorem dX1_feed_33 : decode cX1_feed 33 = .ok (.getfield 39, 3) := dk_180 0 39 (dk_at dksX1_feed_1 9 rfl rfl)
theorem dX1_feed_36 : decode cX1_feed 36 = .ok (.iload_n 2, 1) := dk_28 (dk_at dksX1_feed_1 12 rfl rfl)
theorem dX1_feed_37 : decode cX1_feed 37 = .ok (.invokevirtual 62, 3) := dk_182 0 62 (dk_at dksX1_feed_1 13 rfl rfl)
theorem dX1_feed_40 : decode cX1_feed 40 = .ok (.aload_n 0, 1) := dk_42 (dk_at dksX1_feed_1 16 rfl rfl)
theorem dX1_feed_41 : decode cX1_feed 41 = .ok (.getfield 39, 3) := dk_180 0 39 (dk_at dksX1_feed_1 17 rfl rfl)
theorem dX1_feed_44 : decode cX1_feed 44 = .ok (.iload_n 3, 1) := dk_29 (dk_at dksX1_feed_1 20 rfl rfl)
theorem dX1_feed_45 : decode cX1_feed 45 = .ok (.invokevirtual 62, 3) := dk_182 0 62 (dk_at dksX1_feed_1 21 rfl rfl)
theorem dX1_feed_48 : decode cX1_feed 48 = .ok (.aload_n 0, 1) := dk_42 (dk_at dksX1_feed_2 0 rfl rfl)
theorem dX1_feed_49 : decode cX1_feed 49 = .ok (.getfield 39, 3) := dk_180 0 39 (dk_at dksX1_feed_2 1 rfl rfl)
theorem dX1_feed_52 : decode cX1_feed 52 = .ok (.iload 4, 2) := dk_21 4 (dk_at dksX1_feed_2 4 rfl rfl)
theorem dX1_feed_54 : decode cX1_feed 54 = .ok (.invokevirtual 62, 3) := dk_182 0 62 (dk_at dksX1_feed_2 6 rfl rfl)
theorem dX1_feed_57 : decode cX1_feed 57 = .ok (.aload_n 0, 1) := dk_42 (dk_at dksX1_feed_2 9 rfl rfl)
theorem dX1_feed_58 : decode cX1_feed 58 = .ok (.getfield 39, 3) := dk_180 0 39 (dk_at dksX1_feed_2 10 rfl rfl)
theorem dX1_feed_61 : decode cX1_feed 61 = .ok (.iload 5, 2) := dk_21 5 (dk_at dksX1_feed_2 13 rfl rfl)
theorem dX1_feed_63 : decode cX1_feed 63 = .ok (.invokevirtual 62, 3) := dk_182 0 62 (dk_at dksX1_feed_2 15 rfl rfl)
theorem dX1_feed_66 : decode cX1_feed 66 = .ok (.aload_n 0, 1) := dk_42 (dk_at dksX1_feed_2 18 rfl rfl)
theorem dX1_feed_67 : decode cX1_feed 67 = .ok (.getfield 39, 3) := dk_180 0 39 (dk_at dksX1_feed_2 19 rfl rfl)
theorem dX1_feed_70 : decode cX1_feed 70 = .ok (.getfield 57, 3) := dk_180 0 57 (dk_at dksX1_feed_3 0 rfl rfl)
theorem dX1_feed_73 : decode cX1_feed 73 = .ok (.ireturn, 1) := dk_172 (dk_at dksX1_feed_3 3 rfl rfl)
abbrev cX1_requireState : ByteArray := prog_1_method_2_code
def yX1_requireState : MethodName := ⟨RX1, "requireState", "(Z)V"⟩
def dkwX1_requireState_0 : List UInt8 := [26, 154, 0, 11, 187, 0, 7, 89, 183, 0, 9, 191, 177]
abbrev dktX1_requireState_0 : List UInt8 := dkwX1_requireState_0 ++ []
theorem dksX1_requireState_0 : cX1_requireState.data.toList.drop 0 = dktX1_requireState_0 := by decide +kernel
theorem dX1_requireState_0 : decode cX1_requireState 0 = .ok (.iload_n 0, 1) := dk_26 (dk_at dksX1_requireState_0 0 rfl rfl)
theorem dX1_requireState_1 : decode cX1_requireState 1 = .ok (.ifCond .ne 11, 3) := dk_154 0 11 (dk_at dksX1_requireState_0 1 rfl rfl)
theorem dX1_requireState_4 : decode cX1_requireState 4 = .ok (.new 7, 3) := dk_187 0 7 (dk_at dksX1_requireState_0 4 rfl rfl)
theorem dX1_requireState_7 : decode cX1_requireState 7 = .ok (.dup, 1) := dk_89 (dk_at dksX1_requireState_0 7 rfl rfl)
theorem dX1_requireState_8 : decode cX1_requireState 8 = .ok (.invokespecial 9, 3) := dk_183 0 9 (dk_at dksX1_requireState_0 8 rfl rfl)
theorem dX1_requireState_11 : decode cX1_requireState 11 = .ok (.athrow, 1) := dk_191 (dk_at dksX1_requireState_0 11 rfl rfl)
theorem dX1_requireState_12 : decode cX1_requireState 12 = .ok (.return_, 1) := dk_177 (dk_at dksX1_requireState_0 12 rfl rfl)
abbrev cX1_trim : ByteArray := prog_1_method_9_code
def yX1_trim : MethodName := ⟨RX1, "trim", "(I)I"⟩
def dkwX1_trim_0 : List UInt8 := [3, 42, 180, 0, 39, 180, 0, 57, 27, 184, 0, 66, 42, 180, 0, 39, 27, 181, 0, 57, 27, 172]
abbrev dktX1_trim_0 : List UInt8 := dkwX1_trim_0 ++ []
theorem dksX1_trim_0 : cX1_trim.data.toList.drop 0 = dktX1_trim_0 := by decide +kernel
theorem dX1_trim_0 : decode cX1_trim 0 = .ok (.iconst 0, 1) := dk_3 (dk_at dksX1_trim_0 0 rfl rfl)
theorem dX1_trim_1 : decode cX1_trim 1 = .ok (.aload_n 0, 1) := dk_42 (dk_at dksX1_trim_0 1 rfl rfl)
theorem dX1_trim_2 : decode cX1_trim 2 = .ok (.getfield 39, 3) := dk_180 0 39 (dk_at dksX1_trim_0 2 rfl rfl)
theorem dX1_trim_5 : decode cX1_trim 5 = .ok (.getfield 57, 3) := dk_180 0 57 (dk_at dksX1_trim_0 5 rfl rfl)
theorem dX1_trim_8 : decode cX1_trim 8 = .ok (.iload_n 1, 1) := dk_27 (dk_at dksX1_trim_0 8 rfl rfl)
theorem dX1_trim_9 : decode cX1_trim 9 = .ok (.invokestatic 66, 3) := dk_184 0 66 (dk_at dksX1_trim_0 9 rfl rfl)
theorem dX1_trim_12 : decode cX1_trim 12 = .ok (.aload_n 0, 1) := dk_42 (dk_at dksX1_trim_0 12 rfl rfl)
theorem dX1_trim_13 : decode cX1_trim 13 = .ok (.getfield 39, 3) := dk_180 0 39 (dk_at dksX1_trim_0 13 rfl rfl)
theorem dX1_trim_16 : decode cX1_trim 16 = .ok (.iload_n 1, 1) := dk_27 (dk_at dksX1_trim_0 16 rfl rfl)
theorem dX1_trim_17 : decode cX1_trim 17 = .ok (.putfield 57, 3) := dk_181 0 57 (dk_at dksX1_trim_0 17 rfl rfl)
theorem dX1_trim_20 : decode cX1_trim 20 = .ok (.iload_n 1, 1) := dk_27 (dk_at dksX1_trim_0 20 rfl rfl)
theorem dX1_trim_21 : decode cX1_trim 21 = .ok (.ireturn, 1) := dk_172 (dk_at dksX1_trim_0 21 rfl rfl)
abbrev cX1_requireFrom : ByteArray := prog_1_method_4_code
def yX1_requireFrom : MethodName := ⟨RX1, "requireFrom", "(III)V"⟩
def dkwX1_requireFrom_0 : List UInt8 := [28, 26, 161, 0, 12, 28, 27, 163, 0, 7, 4, 167, 0, 4, 3, 184, 0, 13, 177]
abbrev dktX1_requireFrom_0 : List UInt8 := dkwX1_requireFrom_0 ++ []
theorem dksX1_requireFrom_0 : cX1_requireFrom.data.toList.drop 0 = dktX1_requireFrom_0 := by decide +kernel
theorem dX1_requireFrom_0 : decode cX1_requireFrom 0 = .ok (.iload_n 2, 1) := dk_28 (dk_at dksX1_requireFrom_0 0 rfl rfl)
theorem dX1_requireFrom_1 : decode cX1_requireFrom 1 = .ok (.iload_n 0, 1) := dk_26 (dk_at dksX1_requireFrom_0 1 rfl rfl)
theorem dX1_requireFrom_2 : decode cX1_requireFrom 2 = .ok (.if_icmp .lt 12, 3) := dk_161 0 12 (dk_at dksX1_requireFrom_0 2 rfl rfl)
theorem dX1_requireFrom_5 : decode cX1_requireFrom 5 = .ok (.iload_n 2, 1) := dk_28 (dk_at dksX1_requireFrom_0 5 rfl rfl)
theorem dX1_requireFrom_6 : decode cX1_requireFrom 6 = .ok (.iload_n 1, 1) := dk_27 (dk_at dksX1_requireFrom_0 6 rfl rfl)
theorem dX1_requireFrom_7 : decode cX1_requireFrom 7 = .ok (.if_icmp .gt 7, 3) := dk_163 0 7 (dk_at dksX1_requireFrom_0 7 rfl rfl)
theorem dX1_requireFrom_10 : decode cX1_requireFrom 10 = .ok (.iconst 1, 1) := dk_4 (dk_at dksX1_requireFrom_0 10 rfl rfl)
theorem dX1_requireFrom_11 : decode cX1_requireFrom 11 = .ok (.goto 4, 3) := dk_167 0 4 (dk_at dksX1_requireFrom_0 11 rfl rfl)
theorem dX1_requireFrom_14 : decode cX1_requireFrom 14 = .ok (.iconst 0, 1) := dk_3 (dk_at dksX1_requireFrom_0 14 rfl rfl)
theorem dX1_requireFrom_15 : decode cX1_requireFrom 15 = .ok (.invokestatic 13, 3) := dk_184 0 13 (dk_at dksX1_requireFrom_0 15 rfl rfl)
theorem dX1_requireFrom_18 : decode cX1_requireFrom 18 = .ok (.return_, 1) := dk_177 (dk_at dksX1_requireFrom_0 18 rfl rfl)
abbrev cX1_require : ByteArray := prog_1_method_1_code
def yX1_require : MethodName := ⟨RX1, "require", "(Z)V"⟩
def dkwX1_require_0 : List UInt8 := [26, 154, 0, 11, 187, 0, 1, 89, 183, 0, 3, 191, 177]
abbrev dktX1_require_0 : List UInt8 := dkwX1_require_0 ++ []
theorem dksX1_require_0 : cX1_require.data.toList.drop 0 = dktX1_require_0 := by decide +kernel
theorem dX1_require_0 : decode cX1_require 0 = .ok (.iload_n 0, 1) := dk_26 (dk_at dksX1_require_0 0 rfl rfl)
theorem dX1_require_1 : decode cX1_require 1 = .ok (.ifCond .ne 11, 3) := dk_154 0 11 (dk_at dksX1_require_0 1 rfl rfl)
theorem dX1_require_4 : decode cX1_require 4 = .ok (.new 1, 3) := dk_187 0 1 (dk_at dksX1_require_0 4 rfl rfl)
theorem dX1_require_7 : decode cX1_require 7 = .ok (.dup, 1) := dk_89 (dk_at dksX1_require_0 7 rfl rfl)
theorem dX1_require_8 : decode cX1_require 8 = .ok (.invokespecial 3, 3) := dk_183 0 3 (dk_at dksX1_require_0 8 rfl rfl)
theorem dX1_require_11 : decode cX1_require 11 = .ok (.athrow, 1) := dk_191 (dk_at dksX1_require_0 11 rfl rfl)
theorem dX1_require_12 : decode cX1_require 12 = .ok (.return_, 1) := dk_177 (dk_at dksX1_require_0 12 rfl rfl)
abbrev cX1_hasTile : ByteArray := prog_1_method_25_code
def yX1_hasTile : MethodName := ⟨RX1, "hasTile", "(I)Z"⟩
def dkwX1_hasTile_0 : List UInt8 := [42, 180, 0, 50, 42, 27, 182, 0, 138, 182, 0, 141, 172]
abbrev dktX1_hasTile_0 : List UInt8 := dkwX1_hasTile_0 ++ []
theorem dksX1_hasTile_0 : cX1_hasTile.data.toList.drop 0 = dktX1_hasTile_0 := by decide +kernel
theorem dX1_hasTile_0 : decode cX1_hasTile 0 = .ok (.aload_n 0, 1) := dk_42 (dk_at dksX1_hasTile_0 0 rfl rfl)
theorem dX1_hasTile_1 : decode cX1_hasTile 1 = .ok (.getfield 50, 3) := dk_180 0 50 (dk_at dksX1_hasTile_0 1 rfl rfl)
theorem dX1_hasTile_4 : decode cX1_hasTile 4 = .ok (.aload_n 0, 1) := dk_42 (dk_at dksX1_hasTile_0 4 rfl rfl)
theorem dX1_hasTile_5 : decode cX1_hasTile 5 = .ok (.iload_n 1, 1) := dk_27 (dk_at dksX1_hasTile_0 5 rfl rfl)
theorem dX1_hasTile_6 : decode cX1_hasTile 6 = .ok (.invokevirtual 138, 3) := dk_182 0 138 (dk_at dksX1_hasTile_0 6 rfl rfl)
theorem dX1_hasTile_9 : decode cX1_hasTile 9 = .ok (.invokevirtual 141, 3) := dk_182 0 141 (dk_at dksX1_hasTile_0 9 rfl rfl)
theorem dX1_hasTile_12 : decode cX1_hasTile 12 = .ok (.ireturn, 1) := dk_172 (dk_at dksX1_hasTile_0 12 rfl rfl)
abbrev cX1_tileAt : ByteArray := prog_1_method_26_code
def yX1_tileAt : MethodName := ⟨RX1, "tileAt", "(I)I"⟩
def dkwX1_tileAt_1 : List UInt8 := [4, 100, 172]
abbrev dktX1_tileAt_1 : List UInt8 := dkwX1_tileAt_1 ++ []
def dkwX1_tileAt_0 : List UInt8 := [42, 180, 0, 50, 42, 27, 182, 0, 138, 182, 0, 141, 184, 0, 59, 42, 180, 0, 50, 180, 0, 144, 27, 46]
abbrev dktX1_tileAt_0 : List UInt8 := dkwX1_tileAt_0 ++ dktX1_tileAt_1
theorem dksX1_tileAt_0 : cX1_tileAt.data.toList.drop 0 = dktX1_tileAt_0 := by decide +kernel
theorem dksX1_tileAt_1 : cX1_tileAt.data.toList.drop 24 = dktX1_tileAt_1 := dk_seg dksX1_tileAt_0 24 rfl rfl
theorem dX1_tileAt_0 : decode cX1_tileAt 0 = .ok (.aload_n 0, 1) := dk_42 (dk_at dksX1_tileAt_0 0 rfl rfl)
theorem dX1_tileAt_1 : decode cX1_tileAt 1 = .ok (.getfield 50, 3) := dk_180 0 50 (dk_at dksX1_tileAt_0 1 rfl rfl)
theorem dX1_tileAt_4 : decode cX1_tileAt 4 = .ok (.aload_n 0, 1) := dk_42 (dk_at dksX1_tileAt_0 4 rfl rfl)
theorem dX1_tileAt_5 : decode cX1_tileAt 5 = .ok (.iload_n 1, 1) := dk_27 (dk_at dksX1_tileAt_0 5 rfl rfl)
theorem dX1_tileAt_6 : decode cX1_tileAt 6 = .ok (.invokevirtual 138, 3) := dk_182 0 138 (dk_at dksX1_tileAt_0 6 rfl rfl)
theorem dX1_tileAt_9 : decode cX1_tileAt 9 = .ok (.invokevirtual 141, 3) := dk_182 0 141 (dk_at dksX1_tileAt_0 9 rfl rfl)
theorem dX1_tileAt_12 : decode cX1_tileAt 12 = .ok (.invokestatic 59, 3) := dk_184 0 59 (dk_at dksX1_tileAt_0 12 rfl rfl)
theorem dX1_tileAt_15 : decode cX1_tileAt 15 = .ok (.aload_n 0, 1) := dk_42 (dk_at dksX1_tileAt_0 15 rfl rfl)
theorem dX1_tileAt_16 : decode cX1_tileAt 16 = .ok (.getfield 50, 3) := dk_180 0 50 (dk_at dksX1_tileAt_0 16 rfl rfl)
theorem dX1_tileAt_19 : decode cX1_tileAt 19 = .ok (.getfield 144, 3) := dk_180 0 144 (dk_at dksX1_tileAt_0 19 rfl rfl)
theorem dX1_tileAt_22 : decode cX1_tileAt 22 = .ok (.iload_n 1, 1) := dk_27 (dk_at dksX1_tileAt_0 22 rfl rfl)
theorem dX1_tileAt_23 : decode cX1_tileAt 23 = .ok (.iaload, 1) := dk_46 (dk_at dksX1_tileAt_0 23 rfl rfl)
theorem dX1_tileAt_24 : decode cX1_tileAt 24 = .ok (.iconst 1, 1) := dk_4 (dk_at dksX1_tileAt_1 0 rfl rfl)
theorem dX1_tileAt_25 : decode cX1_tileAt 25 = .ok (.isub, 1) := dk_100 (dk_at dksX1_tileAt_1 1 rfl rfl)
theorem dX1_tileAt_26 : decode cX1_tileAt 26 = .ok (.ireturn, 1) := dk_172 (dk_at dksX1_tileAt_1 2 rfl rfl)
abbrev cX1_numberAt : ByteArray := prog_1_method_27_code
def yX1_numberAt : MethodName := ⟨RX1, "numberAt", "(II)I"⟩
def dkwX1_numberAt_1 : List UInt8 := [182, 0, 141, 184, 0, 59, 42, 180, 0, 50, 27, 28, 182, 0, 148, 172]
abbrev dktX1_numberAt_1 : List UInt8 := dkwX1_numberAt_1 ++ []
def dkwX1_numberAt_0 : List UInt8 := [27, 42, 180, 0, 50, 182, 0, 103, 184, 0, 25, 28, 16, 6, 184, 0, 25, 42, 180, 0, 50, 27]
abbrev dktX1_numberAt_0 : List UInt8 := dkwX1_numberAt_0 ++ dktX1_numberAt_1
theorem dksX1_numberAt_0 : cX1_numberAt.data.toList.drop 0 = dktX1_numberAt_0 := by decide +kernel
theorem dksX1_numberAt_1 : cX1_numberAt.data.toList.drop 22 = dktX1_numberAt_1 := dk_seg dksX1_numberAt_0 22 rfl rfl
theorem dX1_numberAt_0 : decode cX1_numberAt 0 = .ok (.iload_n 1, 1) := dk_27 (dk_at dksX1_numberAt_0 0 rfl rfl)
theorem dX1_numberAt_1 : decode cX1_numberAt 1 = .ok (.aload_n 0, 1) := dk_42 (dk_at dksX1_numberAt_0 1 rfl rfl)
theorem dX1_numberAt_2 : decode cX1_numberAt 2 = .ok (.getfield 50, 3) := dk_180 0 50 (dk_at dksX1_numberAt_0 2 rfl rfl)
theorem dX1_numberAt_5 : decode cX1_numberAt 5 = .ok (.invokevirtual 103, 3) := dk_182 0 103 (dk_at dksX1_numberAt_0 5 rfl rfl)
theorem dX1_numberAt_8 : decode cX1_numberAt 8 = .ok (.invokestatic 25, 3) := dk_184 0 25 (dk_at dksX1_numberAt_0 8 rfl rfl)
theorem dX1_numberAt_11 : decode cX1_numberAt 11 = .ok (.iload_n 2, 1) := dk_28 (dk_at dksX1_numberAt_0 11 rfl rfl)
theorem dX1_numberAt_12 : decode cX1_numberAt 12 = .ok (.bipush 6, 2) := dk_16 6 (dk_at dksX1_numberAt_0 12 rfl rfl)
theorem dX1_numberAt_14 : decode cX1_numberAt 14 = .ok (.invokestatic 25, 3) := dk_184 0 25 (dk_at dksX1_numberAt_0 14 rfl rfl)
theorem dX1_numberAt_17 : decode cX1_numberAt 17 = .ok (.aload_n 0, 1) := dk_42 (dk_at dksX1_numberAt_0 17 rfl rfl)
theorem dX1_numberAt_18 : decode cX1_numberAt 18 = .ok (.getfield 50, 3) := dk_180 0 50 (dk_at dksX1_numberAt_0 18 rfl rfl)
theorem dX1_numberAt_21 : decode cX1_numberAt 21 = .ok (.iload_n 1, 1) := dk_27 (dk_at dksX1_numberAt_0 21 rfl rfl)
theorem dX1_numberAt_22 : decode cX1_numberAt 22 = .ok (.invokevirtual 141, 3) := dk_182 0 141 (dk_at dksX1_numberAt_1 0 rfl rfl)
theorem dX1_numberAt_25 : decode cX1_numberAt 25 = .ok (.invokestatic 59, 3) := dk_184 0 59 (dk_at dksX1_numberAt_1 3 rfl rfl)
theorem dX1_numberAt_28 : decode cX1_numberAt 28 = .ok (.aload_n 0, 1) := dk_42 (dk_at dksX1_numberAt_1 6 rfl rfl)
theorem dX1_numberAt_29 : decode cX1_numberAt 29 = .ok (.getfield 50, 3) := dk_180 0 50 (dk_at dksX1_numberAt_1 7 rfl rfl)
theorem dX1_numberAt_32 : decode cX1_numberAt 32 = .ok (.iload_n 1, 1) := dk_27 (dk_at dksX1_numberAt_1 10 rfl rfl)
theorem dX1_numberAt_33 : decode cX1_numberAt 33 = .ok (.iload_n 2, 1) := dk_28 (dk_at dksX1_numberAt_1 11 rfl rfl)
theorem dX1_numberAt_34 : decode cX1_numberAt 34 = .ok (.invokevirtual 148, 3) := dk_182 0 148 (dk_at dksX1_numberAt_1 12 rfl rfl)
theorem dX1_numberAt_37 : decode cX1_numberAt 37 = .ok (.ireturn, 1) := dk_172 (dk_at dksX1_numberAt_1 15 rfl rfl)
abbrev cX1_isPlaced : ByteArray := prog_1_method_30_code
def yX1_isPlaced : MethodName := ⟨RX1, "isPlaced", "(I)Z"⟩
def dkwX1_isPlaced_0 : List UInt8 := [42, 180, 0, 50, 42, 27, 182, 0, 106, 182, 0, 110, 172]
abbrev dktX1_isPlaced_0 : List UInt8 := dkwX1_isPlaced_0 ++ []
theorem dksX1_isPlaced_0 : cX1_isPlaced.data.toList.drop 0 = dktX1_isPlaced_0 := by decide +kernel
theorem dX1_isPlaced_0 : decode cX1_isPlaced 0 = .ok (.aload_n 0, 1) := dk_42 (dk_at dksX1_isPlaced_0 0 rfl rfl)
theorem dX1_isPlaced_1 : decode cX1_isPlaced 1 = .ok (.getfield 50, 3) := dk_180 0 50 (dk_at dksX1_isPlaced_0 1 rfl rfl)
theorem dX1_isPlaced_4 : decode cX1_isPlaced 4 = .ok (.aload_n 0, 1) := dk_42 (dk_at dksX1_isPlaced_0 4 rfl rfl)
theorem dX1_isPlaced_5 : decode cX1_isPlaced 5 = .ok (.iload_n 1, 1) := dk_27 (dk_at dksX1_isPlaced_0 5 rfl rfl)
theorem dX1_isPlaced_6 : decode cX1_isPlaced 6 = .ok (.invokevirtual 106, 3) := dk_182 0 106 (dk_at dksX1_isPlaced_0 6 rfl rfl)
theorem dX1_isPlaced_9 : decode cX1_isPlaced 9 = .ok (.invokevirtual 110, 3) := dk_182 0 110 (dk_at dksX1_isPlaced_0 9 rfl rfl)
theorem dX1_isPlaced_12 : decode cX1_isPlaced 12 = .ok (.ireturn, 1) := dk_172 (dk_at dksX1_isPlaced_0 12 rfl rfl)
abbrev cX1_cellOf : ByteArray := prog_1_method_31_code
def yX1_cellOf : MethodName := ⟨RX1, "cellOf", "(I)I"⟩
def dkwX1_cellOf_0 : List UInt8 := [42, 180, 0, 50, 180, 0, 158, 42, 27, 182, 0, 160, 182, 0, 163, 192, 0, 164, 182, 0, 166, 172]
abbrev dktX1_cellOf_0 : List UInt8 := dkwX1_cellOf_0 ++ []
theorem dksX1_cellOf_0 : cX1_cellOf.data.toList.drop 0 = dktX1_cellOf_0 := by decide +kernel
theorem dX1_cellOf_0 : decode cX1_cellOf 0 = .ok (.aload_n 0, 1) := dk_42 (dk_at dksX1_cellOf_0 0 rfl rfl)
theorem dX1_cellOf_1 : decode cX1_cellOf 1 = .ok (.getfield 50, 3) := dk_180 0 50 (dk_at dksX1_cellOf_0 1 rfl rfl)
theorem dX1_cellOf_4 : decode cX1_cellOf 4 = .ok (.getfield 158, 3) := dk_180 0 158 (dk_at dksX1_cellOf_0 4 rfl rfl)
theorem dX1_cellOf_7 : decode cX1_cellOf 7 = .ok (.aload_n 0, 1) := dk_42 (dk_at dksX1_cellOf_0 7 rfl rfl)
theorem dX1_cellOf_8 : decode cX1_cellOf 8 = .ok (.iload_n 1, 1) := dk_27 (dk_at dksX1_cellOf_0 8 rfl rfl)
theorem dX1_cellOf_9 : decode cX1_cellOf 9 = .ok (.invokevirtual 160, 3) := dk_182 0 160 (dk_at dksX1_cellOf_0 9 rfl rfl)
theorem dX1_cellOf_12 : decode cX1_cellOf 12 = .ok (.invokevirtual 163, 3) := dk_182 0 163 (dk_at dksX1_cellOf_0 12 rfl rfl)
theorem dX1_cellOf_15 : decode cX1_cellOf 15 = .ok (.checkcast 164, 3) := dk_192 0 164 (dk_at dksX1_cellOf_0 15 rfl rfl)
theorem dX1_cellOf_18 : decode cX1_cellOf 18 = .ok (.invokevirtual 166, 3) := dk_182 0 166 (dk_at dksX1_cellOf_0 18 rfl rfl)
theorem dX1_cellOf_21 : decode cX1_cellOf 21 = .ok (.ireturn, 1) := dk_172 (dk_at dksX1_cellOf_0 21 rfl rfl)
abbrev cX1_lying : ByteArray := prog_1_method_15_code
def yX1_lying : MethodName := ⟨RX1, "lying", "(I)I"⟩
def dkwX1_lying_0 : List UInt8 := [42, 180, 0, 50, 42, 27, 182, 0, 106, 182, 0, 110, 184, 0, 59, 27, 172]
abbrev dktX1_lying_0 : List UInt8 := dkwX1_lying_0 ++ []
theorem dksX1_lying_0 : cX1_lying.data.toList.drop 0 = dktX1_lying_0 := by decide +kernel
theorem dX1_lying_0 : decode cX1_lying 0 = .ok (.aload_n 0, 1) := dk_42 (dk_at dksX1_lying_0 0 rfl rfl)
theorem dX1_lying_1 : decode cX1_lying 1 = .ok (.getfield 50, 3) := dk_180 0 50 (dk_at dksX1_lying_0 1 rfl rfl)
theorem dX1_lying_4 : decode cX1_lying 4 = .ok (.aload_n 0, 1) := dk_42 (dk_at dksX1_lying_0 4 rfl rfl)
theorem dX1_lying_5 : decode cX1_lying 5 = .ok (.iload_n 1, 1) := dk_27 (dk_at dksX1_lying_0 5 rfl rfl)
theorem dX1_lying_6 : decode cX1_lying 6 = .ok (.invokevirtual 106, 3) := dk_182 0 106 (dk_at dksX1_lying_0 6 rfl rfl)
theorem dX1_lying_9 : decode cX1_lying 9 = .ok (.invokevirtual 110, 3) := dk_182 0 110 (dk_at dksX1_lying_0 9 rfl rfl)
theorem dX1_lying_12 : decode cX1_lying 12 = .ok (.invokestatic 59, 3) := dk_184 0 59 (dk_at dksX1_lying_0 12 rfl rfl)
theorem dX1_lying_15 : decode cX1_lying 15 = .ok (.iload_n 1, 1) := dk_27 (dk_at dksX1_lying_0 15 rfl rfl)
theorem dX1_lying_16 : decode cX1_lying 16 = .ok (.ireturn, 1) := dk_172 (dk_at dksX1_lying_0 16 rfl rfl)
abbrev cX1_turnOf : ByteArray := prog_1_method_32_code
def yX1_turnOf : MethodName := ⟨RX1, "turnOf", "(I)I"⟩
def dkwX1_turnOf_0 : List UInt8 := [42, 180, 0, 50, 180, 0, 169, 42, 27, 182, 0, 160, 182, 0, 163, 192, 0, 164, 182, 0, 166, 172]
abbrev dktX1_turnOf_0 : List UInt8 := dkwX1_turnOf_0 ++ []
theorem dksX1_turnOf_0 : cX1_turnOf.data.toList.drop 0 = dktX1_turnOf_0 := by decide +kernel
theorem dX1_turnOf_0 : decode cX1_turnOf 0 = .ok (.aload_n 0, 1) := dk_42 (dk_at dksX1_turnOf_0 0 rfl rfl)
theorem dX1_turnOf_1 : decode cX1_turnOf 1 = .ok (.getfield 50, 3) := dk_180 0 50 (dk_at dksX1_turnOf_0 1 rfl rfl)
theorem dX1_turnOf_4 : decode cX1_turnOf 4 = .ok (.getfield 169, 3) := dk_180 0 169 (dk_at dksX1_turnOf_0 4 rfl rfl)
theorem dX1_turnOf_7 : decode cX1_turnOf 7 = .ok (.aload_n 0, 1) := dk_42 (dk_at dksX1_turnOf_0 7 rfl rfl)
theorem dX1_turnOf_8 : decode cX1_turnOf 8 = .ok (.iload_n 1, 1) := dk_27 (dk_at dksX1_turnOf_0 8 rfl rfl)
theorem dX1_turnOf_9 : decode cX1_turnOf 9 = .ok (.invokevirtual 160, 3) := dk_182 0 160 (dk_at dksX1_turnOf_0 9 rfl rfl)
theorem dX1_turnOf_12 : decode cX1_turnOf 12 = .ok (.invokevirtual 163, 3) := dk_182 0 163 (dk_at dksX1_turnOf_0 12 rfl rfl)
theorem dX1_turnOf_15 : decode cX1_turnOf 15 = .ok (.checkcast 164, 3) := dk_192 0 164 (dk_at dksX1_turnOf_0 15 rfl rfl)
theorem dX1_turnOf_18 : decode cX1_turnOf 18 = .ok (.invokevirtual 166, 3) := dk_182 0 166 (dk_at dksX1_turnOf_0 18 rfl rfl)
theorem dX1_turnOf_21 : decode cX1_turnOf 21 = .ok (.ireturn, 1) := dk_172 (dk_at dksX1_turnOf_0 21 rfl rfl)
abbrev cX1_fits : ByteArray := prog_1_method_33_code
def yX1_fits : MethodName := ⟨RX1, "fits", "(III)Z"⟩
def dkwX1_fits_0 : List UInt8 := [42, 180, 0, 50, 42, 27, 182, 0, 106, 42, 28, 182, 0, 138, 42, 29, 182, 0, 172, 182, 0, 175, 172]
abbrev dktX1_fits_0 : List UInt8 := dkwX1_fits_0 ++ []
theorem dksX1_fits_0 : cX1_fits.data.toList.drop 0 = dktX1_fits_0 := by decide +kernel
theorem dX1_fits_0 : decode cX1_fits 0 = .ok (.aload_n 0, 1) := dk_42 (dk_at dksX1_fits_0 0 rfl rfl)
theorem dX1_fits_1 : decode cX1_fits 1 = .ok (.getfield 50, 3) := dk_180 0 50 (dk_at dksX1_fits_0 1 rfl rfl)
theorem dX1_fits_4 : decode cX1_fits 4 = .ok (.aload_n 0, 1) := dk_42 (dk_at dksX1_fits_0 4 rfl rfl)
theorem dX1_fits_5 : decode cX1_fits 5 = .ok (.iload_n 1, 1) := dk_27 (dk_at dksX1_fits_0 5 rfl rfl)
theorem dX1_fits_6 : decode cX1_fits 6 = .ok (.invokevirtual 106, 3) := dk_182 0 106 (dk_at dksX1_fits_0 6 rfl rfl)
theorem dX1_fits_9 : decode cX1_fits 9 = .ok (.aload_n 0, 1) := dk_42 (dk_at dksX1_fits_0 9 rfl rfl)
theorem dX1_fits_10 : decode cX1_fits 10 = .ok (.iload_n 2, 1) := dk_28 (dk_at dksX1_fits_0 10 rfl rfl)
theorem dX1_fits_11 : decode cX1_fits 11 = .ok (.invokevirtual 138, 3) := dk_182 0 138 (dk_at dksX1_fits_0 11 rfl rfl)
theorem dX1_fits_14 : decode cX1_fits 14 = .ok (.aload_n 0, 1) := dk_42 (dk_at dksX1_fits_0 14 rfl rfl)
theorem dX1_fits_15 : decode cX1_fits 15 = .ok (.iload_n 3, 1) := dk_29 (dk_at dksX1_fits_0 15 rfl rfl)
theorem dX1_fits_16 : decode cX1_fits 16 = .ok (.invokevirtual 172, 3) := dk_182 0 172 (dk_at dksX1_fits_0 16 rfl rfl)
theorem dX1_fits_19 : decode cX1_fits 19 = .ok (.invokevirtual 175, 3) := dk_182 0 175 (dk_at dksX1_fits_0 19 rfl rfl)
theorem dX1_fits_22 : decode cX1_fits 22 = .ok (.ireturn, 1) := dk_172 (dk_at dksX1_fits_0 22 rfl rfl)
abbrev cX1_edge : ByteArray := prog_1_method_14_code
def yX1_edge : MethodName := ⟨RX1, "edge", "(I)I"⟩
def dkwX1_edge_0 : List UInt8 := [27, 16, 6, 184, 0, 25, 27, 172]
abbrev dktX1_edge_0 : List UInt8 := dkwX1_edge_0 ++ []
theorem dksX1_edge_0 : cX1_edge.data.toList.drop 0 = dktX1_edge_0 := by decide +kernel
theorem dX1_edge_0 : decode cX1_edge 0 = .ok (.iload_n 1, 1) := dk_27 (dk_at dksX1_edge_0 0 rfl rfl)
theorem dX1_edge_1 : decode cX1_edge 1 = .ok (.bipush 6, 2) := dk_16 6 (dk_at dksX1_edge_0 1 rfl rfl)
theorem dX1_edge_3 : decode cX1_edge 3 = .ok (.invokestatic 25, 3) := dk_184 0 25 (dk_at dksX1_edge_0 3 rfl rfl)
theorem dX1_edge_6 : decode cX1_edge 6 = .ok (.iload_n 1, 1) := dk_27 (dk_at dksX1_edge_0 6 rfl rfl)
theorem dX1_edge_7 : decode cX1_edge 7 = .ok (.ireturn, 1) := dk_172 (dk_at dksX1_edge_0 7 rfl rfl)
abbrev cX1_edgeAgainst : ByteArray := prog_1_method_34_code
def yX1_edgeAgainst : MethodName := ⟨RX1, "edgeAgainst", "(III)I"⟩
def dkwX1_edgeAgainst_0 : List UInt8 := [42, 180, 0, 50, 42, 27, 182, 0, 106, 42, 28, 182, 0, 138, 42, 29, 182, 0, 172, 182, 0, 179, 172]
abbrev dktX1_edgeAgainst_0 : List UInt8 := dkwX1_edgeAgainst_0 ++ []
theorem dksX1_edgeAgainst_0 : cX1_edgeAgainst.data.toList.drop 0 = dktX1_edgeAgainst_0 := by decide +kernel
theorem dX1_edgeAgainst_0 : decode cX1_edgeAgainst 0 = .ok (.aload_n 0, 1) := dk_42 (dk_at dksX1_edgeAgainst_0 0 rfl rfl)
theorem dX1_edgeAgainst_1 : decode cX1_edgeAgainst 1 = .ok (.getfield 50, 3) := dk_180 0 50 (dk_at dksX1_edgeAgainst_0 1 rfl rfl)
theorem dX1_edgeAgainst_4 : decode cX1_edgeAgainst 4 = .ok (.aload_n 0, 1) := dk_42 (dk_at dksX1_edgeAgainst_0 4 rfl rfl)
theorem dX1_edgeAgainst_5 : decode cX1_edgeAgainst 5 = .ok (.iload_n 1, 1) := dk_27 (dk_at dksX1_edgeAgainst_0 5 rfl rfl)
theorem dX1_edgeAgainst_6 : decode cX1_edgeAgainst 6 = .ok (.invokevirtual 106, 3) := dk_182 0 106 (dk_at dksX1_edgeAgainst_0 6 rfl rfl)
theorem dX1_edgeAgainst_9 : decode cX1_edgeAgainst 9 = .ok (.aload_n 0, 1) := dk_42 (dk_at dksX1_edgeAgainst_0 9 rfl rfl)
theorem dX1_edgeAgainst_10 : decode cX1_edgeAgainst 10 = .ok (.iload_n 2, 1) := dk_28 (dk_at dksX1_edgeAgainst_0 10 rfl rfl)
theorem dX1_edgeAgainst_11 : decode cX1_edgeAgainst 11 = .ok (.invokevirtual 138, 3) := dk_182 0 138 (dk_at dksX1_edgeAgainst_0 11 rfl rfl)
theorem dX1_edgeAgainst_14 : decode cX1_edgeAgainst 14 = .ok (.aload_n 0, 1) := dk_42 (dk_at dksX1_edgeAgainst_0 14 rfl rfl)
theorem dX1_edgeAgainst_15 : decode cX1_edgeAgainst 15 = .ok (.iload_n 3, 1) := dk_29 (dk_at dksX1_edgeAgainst_0 15 rfl rfl)
theorem dX1_edgeAgainst_16 : decode cX1_edgeAgainst 16 = .ok (.invokevirtual 172, 3) := dk_182 0 172 (dk_at dksX1_edgeAgainst_0 16 rfl rfl)
theorem dX1_edgeAgainst_19 : decode cX1_edgeAgainst 19 = .ok (.invokevirtual 179, 3) := dk_182 0 179 (dk_at dksX1_edgeAgainst_0 19 rfl rfl)
theorem dX1_edgeAgainst_22 : decode cX1_edgeAgainst 22 = .ok (.ireturn, 1) := dk_172 (dk_at dksX1_edgeAgainst_0 22 rfl rfl)
abbrev cX1_looksToProve : ByteArray := prog_1_method_37_code
def yX1_looksToProve : MethodName := ⟨RX1, "looksToProve", "(I)I"⟩
def dkwX1_looksToProve_0 : List UInt8 := [42, 180, 0, 50, 42, 27, 182, 0, 106, 182, 0, 186, 184, 0, 59, 42, 180, 0, 50, 27, 182, 0, 189, 172]
abbrev dktX1_looksToProve_0 : List UInt8 := dkwX1_looksToProve_0 ++ []
theorem dksX1_looksToProve_0 : cX1_looksToProve.data.toList.drop 0 = dktX1_looksToProve_0 := by decide +kernel
theorem dX1_looksToProve_0 : decode cX1_looksToProve 0 = .ok (.aload_n 0, 1) := dk_42 (dk_at dksX1_looksToProve_0 0 rfl rfl)
theorem dX1_looksToProve_1 : decode cX1_looksToProve 1 = .ok (.getfield 50, 3) := dk_180 0 50 (dk_at dksX1_looksToProve_0 1 rfl rfl)
theorem dX1_looksToProve_4 : decode cX1_looksToProve 4 = .ok (.aload_n 0, 1) := dk_42 (dk_at dksX1_looksToProve_0 4 rfl rfl)
theorem dX1_looksToProve_5 : decode cX1_looksToProve 5 = .ok (.iload_n 1, 1) := dk_27 (dk_at dksX1_looksToProve_0 5 rfl rfl)
theorem dX1_looksToProve_6 : decode cX1_looksToProve 6 = .ok (.invokevirtual 106, 3) := dk_182 0 106 (dk_at dksX1_looksToProve_0 6 rfl rfl)
theorem dX1_looksToProve_9 : decode cX1_looksToProve 9 = .ok (.invokevirtual 186, 3) := dk_182 0 186 (dk_at dksX1_looksToProve_0 9 rfl rfl)
theorem dX1_looksToProve_12 : decode cX1_looksToProve 12 = .ok (.invokestatic 59, 3) := dk_184 0 59 (dk_at dksX1_looksToProve_0 12 rfl rfl)
theorem dX1_looksToProve_15 : decode cX1_looksToProve 15 = .ok (.aload_n 0, 1) := dk_42 (dk_at dksX1_looksToProve_0 15 rfl rfl)
theorem dX1_looksToProve_16 : decode cX1_looksToProve 16 = .ok (.getfield 50, 3) := dk_180 0 50 (dk_at dksX1_looksToProve_0 16 rfl rfl)
theorem dX1_looksToProve_19 : decode cX1_looksToProve 19 = .ok (.iload_n 1, 1) := dk_27 (dk_at dksX1_looksToProve_0 19 rfl rfl)
theorem dX1_looksToProve_20 : decode cX1_looksToProve 20 = .ok (.invokevirtual 189, 3) := dk_182 0 189 (dk_at dksX1_looksToProve_0 20 rfl rfl)
theorem dX1_looksToProve_23 : decode cX1_looksToProve 23 = .ok (.ireturn, 1) := dk_172 (dk_at dksX1_looksToProve_0 23 rfl rfl)
abbrev cX1_putTile : ByteArray := prog_1_method_38_code
def yX1_putTile : MethodName := ⟨RX1, "putTile", "(III)I"⟩
def dkwX1_putTile_2 : List UInt8 := [180, 0, 50, 182, 0, 129, 21, 4, 100, 172]
abbrev dktX1_putTile_2 : List UInt8 := dkwX1_putTile_2 ++ []
def dkwX1_putTile_1 : List UInt8 := [184, 0, 59, 42, 180, 0, 50, 182, 0, 129, 54, 4, 42, 180, 0, 50, 27, 28, 29, 182, 0, 192, 87, 42]
abbrev dktX1_putTile_1 : List UInt8 := dkwX1_putTile_1 ++ dktX1_putTile_2
def dkwX1_putTile_0 : List UInt8 := [42, 180, 0, 50, 42, 27, 182, 0, 106, 42, 28, 182, 0, 138, 42, 29, 182, 0, 172, 182, 0, 175]
abbrev dktX1_putTile_0 : List UInt8 := dkwX1_putTile_0 ++ dktX1_putTile_1
theorem dksX1_putTile_0 : cX1_putTile.data.toList.drop 0 = dktX1_putTile_0 := by decide +kernel
theorem dksX1_putTile_1 : cX1_putTile.data.toList.drop 22 = dktX1_putTile_1 := dk_seg dksX1_putTile_0 22 rfl rfl
theorem dksX1_putTile_2 : cX1_putTile.data.toList.drop 46 = dktX1_putTile_2 := dk_seg dksX1_putTile_1 24 rfl rfl
theorem dX1_putTile_0 : decode cX1_putTile 0 = .ok (.aload_n 0, 1) := dk_42 (dk_at dksX1_putTile_0 0 rfl rfl)
theorem dX1_putTile_1 : decode cX1_putTile 1 = .ok (.getfield 50, 3) := dk_180 0 50 (dk_at dksX1_putTile_0 1 rfl rfl)
theorem dX1_putTile_4 : decode cX1_putTile 4 = .ok (.aload_n 0, 1) := dk_42 (dk_at dksX1_putTile_0 4 rfl rfl)
theorem dX1_putTile_5 : decode cX1_putTile 5 = .ok (.iload_n 1, 1) := dk_27 (dk_at dksX1_putTile_0 5 rfl rfl)
theorem dX1_putTile_6 : decode cX1_putTile 6 = .ok (.invokevirtual 106, 3) := dk_182 0 106 (dk_at dksX1_putTile_0 6 rfl rfl)
theorem dX1_putTile_9 : decode cX1_putTile 9 = .ok (.aload_n 0, 1) := dk_42 (dk_at dksX1_putTile_0 9 rfl rfl)
theorem dX1_putTile_10 : decode cX1_putTile 10 = .ok (.iload_n 2, 1) := dk_28 (dk_at dksX1_putTile_0 10 rfl rfl)
theorem dX1_putTile_11 : decode cX1_putTile 11 = .ok (.invokevirtual 138, 3) := dk_182 0 138 (dk_at dksX1_putTile_0 11 rfl rfl)
theorem dX1_putTile_14 : decode cX1_putTile 14 = .ok (.aload_n 0, 1) := dk_42 (dk_at dksX1_putTile_0 14 rfl rfl)
theorem dX1_putTile_15 : decode cX1_putTile 15 = .ok (.iload_n 3, 1) := dk_29 (dk_at dksX1_putTile_0 15 rfl rfl)
theorem dX1_putTile_16 : decode cX1_putTile 16 = .ok (.invokevirtual 172, 3) := dk_182 0 172 (dk_at dksX1_putTile_0 16 rfl rfl)
theorem dX1_putTile_19 : decode cX1_putTile 19 = .ok (.invokevirtual 175, 3) := dk_182 0 175 (dk_at dksX1_putTile_0 19 rfl rfl)
theorem dX1_putTile_22 : decode cX1_putTile 22 = .ok (.invokestatic 59, 3) := dk_184 0 59 (dk_at dksX1_putTile_1 0 rfl rfl)
theorem dX1_putTile_25 : decode cX1_putTile 25 = .ok (.aload_n 0, 1) := dk_42 (dk_at dksX1_putTile_1 3 rfl rfl)
theorem dX1_putTile_26 : decode cX1_putTile 26 = .ok (.getfield 50, 3) := dk_180 0 50 (dk_at dksX1_putTile_1 4 rfl rfl)
theorem dX1_putTile_29 : decode cX1_putTile 29 = .ok (.invokevirtual 129, 3) := dk_182 0 129 (dk_at dksX1_putTile_1 7 rfl rfl)
theorem dX1_putTile_32 : decode cX1_putTile 32 = .ok (.istore 4, 2) := dk_54 4 (dk_at dksX1_putTile_1 10 rfl rfl)
theorem dX1_putTile_34 : decode cX1_putTile 34 = .ok (.aload_n 0, 1) := dk_42 (dk_at dksX1_putTile_1 12 rfl rfl)
theorem dX1_putTile_35 : decode cX1_putTile 35 = .ok (.getfield 50, 3) := dk_180 0 50 (dk_at dksX1_putTile_1 13 rfl rfl)
theorem dX1_putTile_38 : decode cX1_putTile 38 = .ok (.iload_n 1, 1) := dk_27 (dk_at dksX1_putTile_1 16 rfl rfl)
theorem dX1_putTile_39 : decode cX1_putTile 39 = .ok (.iload_n 2, 1) := dk_28 (dk_at dksX1_putTile_1 17 rfl rfl)
theorem dX1_putTile_40 : decode cX1_putTile 40 = .ok (.iload_n 3, 1) := dk_29 (dk_at dksX1_putTile_1 18 rfl rfl)
theorem dX1_putTile_41 : decode cX1_putTile 41 = .ok (.invokevirtual 192, 3) := dk_182 0 192 (dk_at dksX1_putTile_1 19 rfl rfl)
theorem dX1_putTile_44 : decode cX1_putTile 44 = .ok (.pop, 1) := dk_87 (dk_at dksX1_putTile_1 22 rfl rfl)
theorem dX1_putTile_45 : decode cX1_putTile 45 = .ok (.aload_n 0, 1) := dk_42 (dk_at dksX1_putTile_1 23 rfl rfl)
theorem dX1_putTile_46 : decode cX1_putTile 46 = .ok (.getfield 50, 3) := dk_180 0 50 (dk_at dksX1_putTile_2 0 rfl rfl)
theorem dX1_putTile_49 : decode cX1_putTile 49 = .ok (.invokevirtual 129, 3) := dk_182 0 129 (dk_at dksX1_putTile_2 3 rfl rfl)
theorem dX1_putTile_52 : decode cX1_putTile 52 = .ok (.iload 4, 2) := dk_21 4 (dk_at dksX1_putTile_2 6 rfl rfl)
theorem dX1_putTile_54 : decode cX1_putTile 54 = .ok (.isub, 1) := dk_100 (dk_at dksX1_putTile_2 8 rfl rfl)
theorem dX1_putTile_55 : decode cX1_putTile 55 = .ok (.ireturn, 1) := dk_172 (dk_at dksX1_putTile_2 9 rfl rfl)
abbrev cX1_takeTile : ByteArray := prog_1_method_39_code
def yX1_takeTile : MethodName := ⟨RX1, "takeTile", "(I)I"⟩
def dkwX1_takeTile_1 : List UInt8 := [180, 0, 50, 182, 0, 129, 100, 172]
abbrev dktX1_takeTile_1 : List UInt8 := dkwX1_takeTile_1 ++ []
def dkwX1_takeTile_0 : List UInt8 := [42, 180, 0, 50, 182, 0, 129, 61, 42, 180, 0, 50, 42, 27, 182, 0, 160, 182, 0, 194, 87, 28, 42]
abbrev dktX1_takeTile_0 : List UInt8 := dkwX1_takeTile_0 ++ dktX1_takeTile_1
theorem dksX1_takeTile_0 : cX1_takeTile.data.toList.drop 0 = dktX1_takeTile_0 := by decide +kernel
theorem dksX1_takeTile_1 : cX1_takeTile.data.toList.drop 23 = dktX1_takeTile_1 := dk_seg dksX1_takeTile_0 23 rfl rfl
theorem dX1_takeTile_0 : decode cX1_takeTile 0 = .ok (.aload_n 0, 1) := dk_42 (dk_at dksX1_takeTile_0 0 rfl rfl)
theorem dX1_takeTile_1 : decode cX1_takeTile 1 = .ok (.getfield 50, 3) := dk_180 0 50 (dk_at dksX1_takeTile_0 1 rfl rfl)
theorem dX1_takeTile_4 : decode cX1_takeTile 4 = .ok (.invokevirtual 129, 3) := dk_182 0 129 (dk_at dksX1_takeTile_0 4 rfl rfl)
theorem dX1_takeTile_7 : decode cX1_takeTile 7 = .ok (.istore_n 2, 1) := dk_61 (dk_at dksX1_takeTile_0 7 rfl rfl)
theorem dX1_takeTile_8 : decode cX1_takeTile 8 = .ok (.aload_n 0, 1) := dk_42 (dk_at dksX1_takeTile_0 8 rfl rfl)
theorem dX1_takeTile_9 : decode cX1_takeTile 9 = .ok (.getfield 50, 3) := dk_180 0 50 (dk_at dksX1_takeTile_0 9 rfl rfl)
theorem dX1_takeTile_12 : decode cX1_takeTile 12 = .ok (.aload_n 0, 1) := dk_42 (dk_at dksX1_takeTile_0 12 rfl rfl)
theorem dX1_takeTile_13 : decode cX1_takeTile 13 = .ok (.iload_n 1, 1) := dk_27 (dk_at dksX1_takeTile_0 13 rfl rfl)
theorem dX1_takeTile_14 : decode cX1_takeTile 14 = .ok (.invokevirtual 160, 3) := dk_182 0 160 (dk_at dksX1_takeTile_0 14 rfl rfl)
theorem dX1_takeTile_17 : decode cX1_takeTile 17 = .ok (.invokevirtual 194, 3) := dk_182 0 194 (dk_at dksX1_takeTile_0 17 rfl rfl)
theorem dX1_takeTile_20 : decode cX1_takeTile 20 = .ok (.pop, 1) := dk_87 (dk_at dksX1_takeTile_0 20 rfl rfl)
theorem dX1_takeTile_21 : decode cX1_takeTile 21 = .ok (.iload_n 2, 1) := dk_28 (dk_at dksX1_takeTile_0 21 rfl rfl)
theorem dX1_takeTile_22 : decode cX1_takeTile 22 = .ok (.aload_n 0, 1) := dk_42 (dk_at dksX1_takeTile_0 22 rfl rfl)
theorem dX1_takeTile_23 : decode cX1_takeTile 23 = .ok (.getfield 50, 3) := dk_180 0 50 (dk_at dksX1_takeTile_1 0 rfl rfl)
theorem dX1_takeTile_26 : decode cX1_takeTile 26 = .ok (.invokevirtual 129, 3) := dk_182 0 129 (dk_at dksX1_takeTile_1 3 rfl rfl)
theorem dX1_takeTile_29 : decode cX1_takeTile 29 = .ok (.isub, 1) := dk_100 (dk_at dksX1_takeTile_1 6 rfl rfl)
theorem dX1_takeTile_30 : decode cX1_takeTile 30 = .ok (.ireturn, 1) := dk_172 (dk_at dksX1_takeTile_1 7 rfl rfl)
abbrev cX1_fitTile : ByteArray := prog_1_method_40_code
def yX1_fitTile : MethodName := ⟨RX1, "fitTile", "(I)I"⟩
def dkwX1_fitTile_1 : List UInt8 := [27, 44, 182, 0, 207, 192, 0, 210, 182, 0, 212, 87, 44, 182, 0, 207, 192, 0, 210, 180, 0, 215, 172]
abbrev dktX1_fitTile_1 : List UInt8 := dkwX1_fitTile_1 ++ []
def dkwX1_fitTile_0 : List UInt8 := [42, 180, 0, 50, 42, 27, 182, 0, 106, 182, 0, 197, 77, 44, 182, 0, 201, 184, 0, 59, 42, 180, 0, 50]
abbrev dktX1_fitTile_0 : List UInt8 := dkwX1_fitTile_0 ++ dktX1_fitTile_1
theorem dksX1_fitTile_0 : cX1_fitTile.data.toList.drop 0 = dktX1_fitTile_0 := by decide +kernel
theorem dksX1_fitTile_1 : cX1_fitTile.data.toList.drop 24 = dktX1_fitTile_1 := dk_seg dksX1_fitTile_0 24 rfl rfl
theorem dX1_fitTile_0 : decode cX1_fitTile 0 = .ok (.aload_n 0, 1) := dk_42 (dk_at dksX1_fitTile_0 0 rfl rfl)
theorem dX1_fitTile_1 : decode cX1_fitTile 1 = .ok (.getfield 50, 3) := dk_180 0 50 (dk_at dksX1_fitTile_0 1 rfl rfl)
theorem dX1_fitTile_4 : decode cX1_fitTile 4 = .ok (.aload_n 0, 1) := dk_42 (dk_at dksX1_fitTile_0 4 rfl rfl)
theorem dX1_fitTile_5 : decode cX1_fitTile 5 = .ok (.iload_n 1, 1) := dk_27 (dk_at dksX1_fitTile_0 5 rfl rfl)
theorem dX1_fitTile_6 : decode cX1_fitTile 6 = .ok (.invokevirtual 106, 3) := dk_182 0 106 (dk_at dksX1_fitTile_0 6 rfl rfl)
theorem dX1_fitTile_9 : decode cX1_fitTile 9 = .ok (.invokevirtual 197, 3) := dk_182 0 197 (dk_at dksX1_fitTile_0 9 rfl rfl)
theorem dX1_fitTile_12 : decode cX1_fitTile 12 = .ok (.astore_n 2, 1) := dk_77 (dk_at dksX1_fitTile_0 12 rfl rfl)
theorem dX1_fitTile_13 : decode cX1_fitTile 13 = .ok (.aload_n 2, 1) := dk_44 (dk_at dksX1_fitTile_0 13 rfl rfl)
theorem dX1_fitTile_14 : decode cX1_fitTile 14 = .ok (.invokevirtual 201, 3) := dk_182 0 201 (dk_at dksX1_fitTile_0 14 rfl rfl)
theorem dX1_fitTile_17 : decode cX1_fitTile 17 = .ok (.invokestatic 59, 3) := dk_184 0 59 (dk_at dksX1_fitTile_0 17 rfl rfl)
theorem dX1_fitTile_20 : decode cX1_fitTile 20 = .ok (.aload_n 0, 1) := dk_42 (dk_at dksX1_fitTile_0 20 rfl rfl)
theorem dX1_fitTile_21 : decode cX1_fitTile 21 = .ok (.getfield 50, 3) := dk_180 0 50 (dk_at dksX1_fitTile_0 21 rfl rfl)
theorem dX1_fitTile_24 : decode cX1_fitTile 24 = .ok (.iload_n 1, 1) := dk_27 (dk_at dksX1_fitTile_1 0 rfl rfl)
theorem dX1_fitTile_25 : decode cX1_fitTile 25 = .ok (.aload_n 2, 1) := dk_44 (dk_at dksX1_fitTile_1 1 rfl rfl)
theorem dX1_fitTile_26 : decode cX1_fitTile 26 = .ok (.invokevirtual 207, 3) := dk_182 0 207 (dk_at dksX1_fitTile_1 2 rfl rfl)
theorem dX1_fitTile_29 : decode cX1_fitTile 29 = .ok (.checkcast 210, 3) := dk_192 0 210 (dk_at dksX1_fitTile_1 5 rfl rfl)
theorem dX1_fitTile_32 : decode cX1_fitTile 32 = .ok (.invokevirtual 212, 3) := dk_182 0 212 (dk_at dksX1_fitTile_1 8 rfl rfl)
theorem dX1_fitTile_35 : decode cX1_fitTile 35 = .ok (.pop, 1) := dk_87 (dk_at dksX1_fitTile_1 11 rfl rfl)
theorem dX1_fitTile_36 : decode cX1_fitTile 36 = .ok (.aload_n 2, 1) := dk_44 (dk_at dksX1_fitTile_1 12 rfl rfl)
theorem dX1_fitTile_37 : decode cX1_fitTile 37 = .ok (.invokevirtual 207, 3) := dk_182 0 207 (dk_at dksX1_fitTile_1 13 rfl rfl)
theorem dX1_fitTile_40 : decode cX1_fitTile 40 = .ok (.checkcast 210, 3) := dk_192 0 210 (dk_at dksX1_fitTile_1 16 rfl rfl)
theorem dX1_fitTile_43 : decode cX1_fitTile 43 = .ok (.getfield 215, 3) := dk_180 0 215 (dk_at dksX1_fitTile_1 19 rfl rfl)
theorem dX1_fitTile_46 : decode cX1_fitTile 46 = .ok (.ireturn, 1) := dk_172 (dk_at dksX1_fitTile_1 22 rfl rfl)
abbrev cX1_playRounds : ByteArray := prog_1_method_41_code
def yX1_playRounds : MethodName := ⟨RX1, "playRounds", "(I)I"⟩
def dkwX1_playRounds_1 : List UInt8 := [180, 0, 50, 180, 0, 217, 28, 100, 172]
abbrev dktX1_playRounds_1 : List UInt8 := dkwX1_playRounds_1 ++ []
def dkwX1_playRounds_0 : List UInt8 := [4, 16, 20, 27, 184, 0, 66, 42, 180, 0, 50, 180, 0, 217, 61, 42, 180, 0, 50, 27, 182, 0, 220, 42]
abbrev dktX1_playRounds_0 : List UInt8 := dkwX1_playRounds_0 ++ dktX1_playRounds_1
theorem dksX1_playRounds_0 : cX1_playRounds.data.toList.drop 0 = dktX1_playRounds_0 := by decide +kernel
theorem dksX1_playRounds_1 : cX1_playRounds.data.toList.drop 24 = dktX1_playRounds_1 := dk_seg dksX1_playRounds_0 24 rfl rfl
theorem dX1_playRounds_0 : decode cX1_playRounds 0 = .ok (.iconst 1, 1) := dk_4 (dk_at dksX1_playRounds_0 0 rfl rfl)
theorem dX1_playRounds_1 : decode cX1_playRounds 1 = .ok (.bipush 20, 2) := dk_16 20 (dk_at dksX1_playRounds_0 1 rfl rfl)
theorem dX1_playRounds_3 : decode cX1_playRounds 3 = .ok (.iload_n 1, 1) := dk_27 (dk_at dksX1_playRounds_0 3 rfl rfl)
theorem dX1_playRounds_4 : decode cX1_playRounds 4 = .ok (.invokestatic 66, 3) := dk_184 0 66 (dk_at dksX1_playRounds_0 4 rfl rfl)
theorem dX1_playRounds_7 : decode cX1_playRounds 7 = .ok (.aload_n 0, 1) := dk_42 (dk_at dksX1_playRounds_0 7 rfl rfl)
theorem dX1_playRounds_8 : decode cX1_playRounds 8 = .ok (.getfield 50, 3) := dk_180 0 50 (dk_at dksX1_playRounds_0 8 rfl rfl)
theorem dX1_playRounds_11 : decode cX1_playRounds 11 = .ok (.getfield 217, 3) := dk_180 0 217 (dk_at dksX1_playRounds_0 11 rfl rfl)
theorem dX1_playRounds_14 : decode cX1_playRounds 14 = .ok (.istore_n 2, 1) := dk_61 (dk_at dksX1_playRounds_0 14 rfl rfl)
theorem dX1_playRounds_15 : decode cX1_playRounds 15 = .ok (.aload_n 0, 1) := dk_42 (dk_at dksX1_playRounds_0 15 rfl rfl)
theorem dX1_playRounds_16 : decode cX1_playRounds 16 = .ok (.getfield 50, 3) := dk_180 0 50 (dk_at dksX1_playRounds_0 16 rfl rfl)
theorem dX1_playRounds_19 : decode cX1_playRounds 19 = .ok (.iload_n 1, 1) := dk_27 (dk_at dksX1_playRounds_0 19 rfl rfl)
theorem dX1_playRounds_20 : decode cX1_playRounds 20 = .ok (.invokevirtual 220, 3) := dk_182 0 220 (dk_at dksX1_playRounds_0 20 rfl rfl)
theorem dX1_playRounds_23 : decode cX1_playRounds 23 = .ok (.aload_n 0, 1) := dk_42 (dk_at dksX1_playRounds_0 23 rfl rfl)
theorem dX1_playRounds_24 : decode cX1_playRounds 24 = .ok (.getfield 50, 3) := dk_180 0 50 (dk_at dksX1_playRounds_1 0 rfl rfl)
theorem dX1_playRounds_27 : decode cX1_playRounds 27 = .ok (.getfield 217, 3) := dk_180 0 217 (dk_at dksX1_playRounds_1 3 rfl rfl)
theorem dX1_playRounds_30 : decode cX1_playRounds 30 = .ok (.iload_n 2, 1) := dk_28 (dk_at dksX1_playRounds_1 6 rfl rfl)
theorem dX1_playRounds_31 : decode cX1_playRounds 31 = .ok (.isub, 1) := dk_100 (dk_at dksX1_playRounds_1 7 rfl rfl)
theorem dX1_playRounds_32 : decode cX1_playRounds 32 = .ok (.ireturn, 1) := dk_172 (dk_at dksX1_playRounds_1 8 rfl rfl)
abbrev cX1_pointsAfter : ByteArray := prog_1_method_42_code
def yX1_pointsAfter : MethodName := ⟨RX1, "pointsAfter", "(I)I"⟩
def dkwX1_pointsAfter_1 : List UInt8 := [180, 0, 54, 182, 0, 129, 172]
abbrev dktX1_pointsAfter_1 : List UInt8 := dkwX1_pointsAfter_1 ++ []
def dkwX1_pointsAfter_0 : List UInt8 := [4, 16, 20, 27, 184, 0, 66, 42, 180, 0, 54, 42, 180, 0, 50, 182, 0, 223, 27, 182, 0, 220, 42]
abbrev dktX1_pointsAfter_0 : List UInt8 := dkwX1_pointsAfter_0 ++ dktX1_pointsAfter_1
theorem dksX1_pointsAfter_0 : cX1_pointsAfter.data.toList.drop 0 = dktX1_pointsAfter_0 := by decide +kernel
theorem dksX1_pointsAfter_1 : cX1_pointsAfter.data.toList.drop 23 = dktX1_pointsAfter_1 := dk_seg dksX1_pointsAfter_0 23 rfl rfl
theorem dX1_pointsAfter_0 : decode cX1_pointsAfter 0 = .ok (.iconst 1, 1) := dk_4 (dk_at dksX1_pointsAfter_0 0 rfl rfl)
theorem dX1_pointsAfter_1 : decode cX1_pointsAfter 1 = .ok (.bipush 20, 2) := dk_16 20 (dk_at dksX1_pointsAfter_0 1 rfl rfl)
theorem dX1_pointsAfter_3 : decode cX1_pointsAfter 3 = .ok (.iload_n 1, 1) := dk_27 (dk_at dksX1_pointsAfter_0 3 rfl rfl)
theorem dX1_pointsAfter_4 : decode cX1_pointsAfter 4 = .ok (.invokestatic 66, 3) := dk_184 0 66 (dk_at dksX1_pointsAfter_0 4 rfl rfl)
theorem dX1_pointsAfter_7 : decode cX1_pointsAfter 7 = .ok (.aload_n 0, 1) := dk_42 (dk_at dksX1_pointsAfter_0 7 rfl rfl)
theorem dX1_pointsAfter_8 : decode cX1_pointsAfter 8 = .ok (.getfield 54, 3) := dk_180 0 54 (dk_at dksX1_pointsAfter_0 8 rfl rfl)
theorem dX1_pointsAfter_11 : decode cX1_pointsAfter 11 = .ok (.aload_n 0, 1) := dk_42 (dk_at dksX1_pointsAfter_0 11 rfl rfl)
theorem dX1_pointsAfter_12 : decode cX1_pointsAfter 12 = .ok (.getfield 50, 3) := dk_180 0 50 (dk_at dksX1_pointsAfter_0 12 rfl rfl)
theorem dX1_pointsAfter_15 : decode cX1_pointsAfter 15 = .ok (.invokevirtual 223, 3) := dk_182 0 223 (dk_at dksX1_pointsAfter_0 15 rfl rfl)
theorem dX1_pointsAfter_18 : decode cX1_pointsAfter 18 = .ok (.iload_n 1, 1) := dk_27 (dk_at dksX1_pointsAfter_0 18 rfl rfl)
theorem dX1_pointsAfter_19 : decode cX1_pointsAfter 19 = .ok (.invokevirtual 220, 3) := dk_182 0 220 (dk_at dksX1_pointsAfter_0 19 rfl rfl)
theorem dX1_pointsAfter_22 : decode cX1_pointsAfter 22 = .ok (.aload_n 0, 1) := dk_42 (dk_at dksX1_pointsAfter_0 22 rfl rfl)
theorem dX1_pointsAfter_23 : decode cX1_pointsAfter 23 = .ok (.getfield 54, 3) := dk_180 0 54 (dk_at dksX1_pointsAfter_1 0 rfl rfl)
theorem dX1_pointsAfter_26 : decode cX1_pointsAfter 26 = .ok (.invokevirtual 129, 3) := dk_182 0 129 (dk_at dksX1_pointsAfter_1 3 rfl rfl)
theorem dX1_pointsAfter_29 : decode cX1_pointsAfter 29 = .ok (.ireturn, 1) := dk_172 (dk_at dksX1_pointsAfter_1 6 rfl rfl)
abbrev cX1_bestCell : ByteArray := prog_1_method_45_code
def yX1_bestCell : MethodName := ⟨RX1, "bestCell", "(I)I"⟩
def dkwX1_bestCell_0 : List UInt8 := [42, 27, 182, 0, 230, 180, 0, 215, 172]
abbrev dktX1_bestCell_0 : List UInt8 := dkwX1_bestCell_0 ++ []
theorem dksX1_bestCell_0 : cX1_bestCell.data.toList.drop 0 = dktX1_bestCell_0 := by decide +kernel
theorem dX1_bestCell_0 : decode cX1_bestCell 0 = .ok (.aload_n 0, 1) := dk_42 (dk_at dksX1_bestCell_0 0 rfl rfl)
theorem dX1_bestCell_1 : decode cX1_bestCell 1 = .ok (.iload_n 1, 1) := dk_27 (dk_at dksX1_bestCell_0 1 rfl rfl)
theorem dX1_bestCell_2 : decode cX1_bestCell 2 = .ok (.invokevirtual 230, 3) := dk_182 0 230 (dk_at dksX1_bestCell_0 2 rfl rfl)
theorem dX1_bestCell_5 : decode cX1_bestCell 5 = .ok (.getfield 215, 3) := dk_180 0 215 (dk_at dksX1_bestCell_0 5 rfl rfl)
theorem dX1_bestCell_8 : decode cX1_bestCell 8 = .ok (.ireturn, 1) := dk_172 (dk_at dksX1_bestCell_0 8 rfl rfl)
abbrev cX1_best : ByteArray := prog_1_method_44_code
def yX1_best : MethodName := ⟨RX1, "best", "(I)LRingDomino$Way;"⟩
def dkwX1_best_1 : List UInt8 := [192, 0, 210, 176]
abbrev dktX1_best_1 : List UInt8 := dkwX1_best_1 ++ []
def dkwX1_best_0 : List UInt8 := [42, 180, 0, 50, 42, 27, 182, 0, 106, 182, 0, 227, 77, 44, 182, 0, 201, 184, 0, 59, 44, 182, 0, 207]
abbrev dktX1_best_0 : List UInt8 := dkwX1_best_0 ++ dktX1_best_1
theorem dksX1_best_0 : cX1_best.data.toList.drop 0 = dktX1_best_0 := by decide +kernel
theorem dksX1_best_1 : cX1_best.data.toList.drop 24 = dktX1_best_1 := dk_seg dksX1_best_0 24 rfl rfl
theorem dX1_best_0 : decode cX1_best 0 = .ok (.aload_n 0, 1) := dk_42 (dk_at dksX1_best_0 0 rfl rfl)
theorem dX1_best_1 : decode cX1_best 1 = .ok (.getfield 50, 3) := dk_180 0 50 (dk_at dksX1_best_0 1 rfl rfl)
theorem dX1_best_4 : decode cX1_best 4 = .ok (.aload_n 0, 1) := dk_42 (dk_at dksX1_best_0 4 rfl rfl)
theorem dX1_best_5 : decode cX1_best 5 = .ok (.iload_n 1, 1) := dk_27 (dk_at dksX1_best_0 5 rfl rfl)
theorem dX1_best_6 : decode cX1_best 6 = .ok (.invokevirtual 106, 3) := dk_182 0 106 (dk_at dksX1_best_0 6 rfl rfl)
theorem dX1_best_9 : decode cX1_best 9 = .ok (.invokevirtual 227, 3) := dk_182 0 227 (dk_at dksX1_best_0 9 rfl rfl)
theorem dX1_best_12 : decode cX1_best 12 = .ok (.astore_n 2, 1) := dk_77 (dk_at dksX1_best_0 12 rfl rfl)
theorem dX1_best_13 : decode cX1_best 13 = .ok (.aload_n 2, 1) := dk_44 (dk_at dksX1_best_0 13 rfl rfl)
theorem dX1_best_14 : decode cX1_best 14 = .ok (.invokevirtual 201, 3) := dk_182 0 201 (dk_at dksX1_best_0 14 rfl rfl)
theorem dX1_best_17 : decode cX1_best 17 = .ok (.invokestatic 59, 3) := dk_184 0 59 (dk_at dksX1_best_0 17 rfl rfl)
theorem dX1_best_20 : decode cX1_best 20 = .ok (.aload_n 2, 1) := dk_44 (dk_at dksX1_best_0 20 rfl rfl)
theorem dX1_best_21 : decode cX1_best 21 = .ok (.invokevirtual 207, 3) := dk_182 0 207 (dk_at dksX1_best_0 21 rfl rfl)
theorem dX1_best_24 : decode cX1_best 24 = .ok (.checkcast 210, 3) := dk_192 0 210 (dk_at dksX1_best_1 0 rfl rfl)
theorem dX1_best_27 : decode cX1_best 27 = .ok (.areturn, 1) := dk_176 (dk_at dksX1_best_1 3 rfl rfl)
abbrev cX1_bestTurn : ByteArray := prog_1_method_46_code
def yX1_bestTurn : MethodName := ⟨RX1, "bestTurn", "(I)I"⟩
def dkwX1_bestTurn_0 : List UInt8 := [42, 27, 182, 0, 230, 180, 0, 234, 172]
abbrev dktX1_bestTurn_0 : List UInt8 := dkwX1_bestTurn_0 ++ []
theorem dksX1_bestTurn_0 : cX1_bestTurn.data.toList.drop 0 = dktX1_bestTurn_0 := by decide +kernel
theorem dX1_bestTurn_0 : decode cX1_bestTurn 0 = .ok (.aload_n 0, 1) := dk_42 (dk_at dksX1_bestTurn_0 0 rfl rfl)
theorem dX1_bestTurn_1 : decode cX1_bestTurn 1 = .ok (.iload_n 1, 1) := dk_27 (dk_at dksX1_bestTurn_0 1 rfl rfl)
theorem dX1_bestTurn_2 : decode cX1_bestTurn 2 = .ok (.invokevirtual 230, 3) := dk_182 0 230 (dk_at dksX1_bestTurn_0 2 rfl rfl)
theorem dX1_bestTurn_5 : decode cX1_bestTurn 5 = .ok (.getfield 234, 3) := dk_180 0 234 (dk_at dksX1_bestTurn_0 5 rfl rfl)
theorem dX1_bestTurn_8 : decode cX1_bestTurn 8 = .ok (.ireturn, 1) := dk_172 (dk_at dksX1_bestTurn_0 8 rfl rfl)
theorem q100 : (Jvm.Cond.initialized "RingDomino") ∈ lw_all := lw_g (lw_at lw_m1 1 rfl) rfl
theorem q167 : (Jvm.Cond.instantiable "RingDomino" (4 : Nat)) ∈ lw_all := lw_g (lw_at lw_m1 68 rfl) rfl
theorem q169 : (Jvm.Cond.instanceMethod ({ cls := "RingDomino", name := "<init>", desc := "()V" } : Jvm.MethodName)) ∈ lw_all := lw_g (lw_at lw_m1 70 rfl) rfl
theorem q170 : (Jvm.Cond.code ({ cls := "RingDomino", name := "<init>", desc := "()V" } : Jvm.MethodName) prog_1_method_7_code (1 : Nat) (Option.none : Option Jvm.ClassFile.FieldType)) ∈ lw_all := lw_g (lw_at lw_m1 71 rfl) rfl
theorem q171 : (Jvm.Cond.methodLink "RingDomino" (33 : Nat) ({ cls := "java/lang/Object", name := "<init>", desc := "()V" } : Jvm.MethodName)) ∈ lw_all := lw_g (lw_at lw_m1 72 rfl) rfl
theorem q174 : (Jvm.Cond.classLink "RingDomino" (36 : Nat) "RingDomino$Tape") ∈ lw_all := lw_g (lw_at lw_m1 75 rfl) rfl
theorem q176 : (Jvm.Cond.methodLinkNest "RingDomino" (38 : Nat) ({ cls := "RingDomino$Tape", name := "<init>", desc := "()V" } : Jvm.MethodName) "RingDomino") ∈ lw_tbl := lw_at lw_m1 77 rfl
theorem q183 : (Jvm.Cond.fieldLinkNest "RingDomino" (57 : Nat) "RingDomino$Tape" "size" "I" "RingDomino") ∈ lw_tbl := lw_at lw_m1 84 rfl
theorem q190 : (Jvm.Cond.classLink "RingDomino" (47 : Nat) "RingDomino$Game") ∈ lw_all := lw_g (lw_at lw_m1 91 rfl) rfl
theorem q192 : (Jvm.Cond.methodLinkNest "RingDomino" (49 : Nat) ({ cls := "RingDomino$Game", name := "<init>", desc := "()V" } : Jvm.MethodName) "RingDomino") ∈ lw_tbl := lw_at lw_m1 93 rfl
theorem q228 : (Jvm.Cond.fieldLinkNest "RingDomino" (114 : Nat) "RingDomino$Game" "columns" "I" "RingDomino") ∈ lw_tbl := lw_at lw_m1 129 rfl
theorem q232 : (Jvm.Cond.fieldLinkNest "RingDomino" (117 : Nat) "RingDomino$Game" "rows" "I" "RingDomino") ∈ lw_tbl := lw_at lw_m1 133 rfl
theorem q234 : (Jvm.Cond.fieldLinkNest "RingDomino" (96 : Nat) "RingDomino$Game" "tiles" "Ljava/util/ArrayList;" "RingDomino") ∈ lw_tbl := lw_at lw_m1 135 rfl
theorem q238 : (Jvm.Cond.fieldLinkNest "RingDomino" (120 : Nat) "RingDomino$Game" "round" "I" "RingDomino") ∈ lw_tbl := lw_at lw_m1 139 rfl
theorem q241 : (Jvm.Cond.fieldLinkNest "RingDomino" (217 : Nat) "RingDomino$Game" "done" "I" "RingDomino") ∈ lw_tbl := lw_at lw_m1 142 rfl
theorem q243 : (Jvm.Cond.fieldLinkNest "RingDomino" (144 : Nat) "RingDomino$Game" "lies" "[I" "RingDomino") ∈ lw_tbl := lw_at lw_m1 144 rfl
theorem q245 : (Jvm.Cond.fieldLinkNest "RingDomino" (158 : Nat) "RingDomino$Game" "cells" "Ljava/util/ArrayList;" "RingDomino") ∈ lw_tbl := lw_at lw_m1 146 rfl
theorem q247 : (Jvm.Cond.fieldLinkNest "RingDomino" (169 : Nat) "RingDomino$Game" "turns" "Ljava/util/ArrayList;" "RingDomino") ∈ lw_tbl := lw_at lw_m1 148 rfl
theorem q268 : (Jvm.Cond.fieldLink "RingDomino" (39 : Nat) "RingDomino" "tape" "LRingDomino$Tape;") ∈ lw_all := lw_g (lw_at lw_m1 169 rfl) rfl
theorem q269 : (Jvm.Cond.fieldLink "RingDomino" (43 : Nat) "RingDomino" "errorAt" "I") ∈ lw_all := lw_g (lw_at lw_m1 170 rfl) rfl
theorem q270 : (Jvm.Cond.fieldLink "RingDomino" (50 : Nat) "RingDomino" "game" "LRingDomino$Game;") ∈ lw_all := lw_g (lw_at lw_m1 171 rfl) rfl
theorem q271 : (Jvm.Cond.fieldLink "RingDomino" (54 : Nat) "RingDomino" "ahead" "LRingDomino$Game;") ∈ lw_all := lw_g (lw_at lw_m1 172 rfl) rfl
theorem q272 : (Jvm.Cond.laysFinal "RingDomino" "RingDomino" "tape" "LRingDomino$Tape;") ∈ lw_all := lw_g (lw_at lw_m1 173 rfl) rfl
theorem q273 : (Jvm.Cond.soleField "RingDomino" "tape") ∈ lw_all := lw_g (lw_at lw_m1 174 rfl) rfl
theorem q274 : (Jvm.Cond.lays "RingDomino" "RingDomino" "errorAt" "I") ∈ lw_all := lw_g (lw_at lw_m1 175 rfl) rfl
theorem q275 : (Jvm.Cond.soleField "RingDomino" "errorAt") ∈ lw_all := lw_g (lw_at lw_m1 176 rfl) rfl
theorem q276 : (Jvm.Cond.lays "RingDomino" "RingDomino" "game" "LRingDomino$Game;") ∈ lw_all := lw_g (lw_at lw_m1 177 rfl) rfl
theorem q277 : (Jvm.Cond.soleField "RingDomino" "game") ∈ lw_all := lw_g (lw_at lw_m1 178 rfl) rfl
theorem q278 : (Jvm.Cond.laysFinal "RingDomino" "RingDomino" "ahead" "LRingDomino$Game;") ∈ lw_all := lw_g (lw_at lw_m1 179 rfl) rfl
theorem q279 : (Jvm.Cond.soleField "RingDomino" "ahead") ∈ lw_all := lw_g (lw_at lw_m1 180 rfl) rfl
theorem q280 : (Jvm.Cond.superclass "RingDomino" "java/lang/Object") ∈ lw_all := lw_g (lw_at lw_m1 181 rfl) rfl
theorem q282 : (Jvm.Cond.instanceMethod ({ cls := "RingDomino", name := "teach", desc := "()I" } : Jvm.MethodName)) ∈ lw_all := lw_g (lw_at lw_m1 183 rfl) rfl
theorem q283 : (Jvm.Cond.selects "RingDomino" ({ cls := "RingDomino", name := "teach", desc := "()I" } : Jvm.MethodName) ({ cls := "RingDomino", name := "teach", desc := "()I" } : Jvm.MethodName)) ∈ lw_all := lw_g (lw_at lw_m1 184 rfl) rfl
theorem q284 : (Jvm.Cond.codeWith ({ cls := "RingDomino", name := "teach", desc := "()I" } : Jvm.MethodName) prog_1_method_10_code (3 : Nat) (Option.some Jvm.ClassFile.FieldType.int) [((7 : Nat), (35 : Nat), (38 : Nat), (88 : Nat))]) ∈ lw_all := lw_g (lw_at lw_m1 185 rfl) rfl
theorem q285 : (Jvm.Cond.classLink "RingDomino" (88 : Nat) "RingDomino$Fault") ∈ lw_all := lw_g (lw_at lw_m1 186 rfl) rfl
theorem q286 : (Jvm.Cond.classLink "RingDomino" (70 : Nat) "RingDomino$Reader") ∈ lw_all := lw_g (lw_at lw_m1 187 rfl) rfl
theorem q288 : (Jvm.Cond.classLink "RingDomino" (72 : Nat) "RingDomino$Scanner") ∈ lw_all := lw_g (lw_at lw_m1 189 rfl) rfl
theorem q290 : (Jvm.Cond.methodLink "RingDomino" (74 : Nat) ({ cls := "RingDomino$Scanner", name := "<init>", desc := "(LRingDomino$Tape;)V" } : Jvm.MethodName)) ∈ lw_all := lw_g (lw_at lw_m1 191 rfl) rfl
theorem q303 : (Jvm.Cond.methodLink "RingDomino" (77 : Nat) ({ cls := "RingDomino$Scanner", name := "all", desc := "()Ljava/util/List;" } : Jvm.MethodName)) ∈ lw_all := lw_g (lw_at lw_m1 204 rfl) rfl
theorem q785 : (Jvm.Cond.selects "RingDomino" ({ cls := "java/lang/Object", name := "getClass", desc := "()Ljava/lang/Class;" } : Jvm.MethodName) ({ cls := "java/lang/Object", name := "getClass", desc := "()Ljava/lang/Class;" } : Jvm.MethodName)) ∈ lw_all := lw_g (lw_at lw_m3 206 rfl) rfl
theorem q852 : (Jvm.Cond.methodLink "RingDomino" (81 : Nat) ({ cls := "RingDomino$Reader", name := "<init>", desc := "(Ljava/util/List;)V" } : Jvm.MethodName)) ∈ lw_all := lw_g (lw_at lw_m4 33 rfl) rfl
theorem q909 : (Jvm.Cond.methodLink "RingDomino" (84 : Nat) ({ cls := "RingDomino$Reader", name := "read", desc := "()LRingDomino$Game;" } : Jvm.MethodName)) ∈ lw_all := lw_g (lw_at lw_m4 90 rfl) rfl
theorem q982 : (Jvm.Cond.fieldLinkNest "RingDomino" (90 : Nat) "RingDomino$Fault" "error" "I" "RingDomino") ∈ lw_tbl := lw_at lw_m4 163 rfl
theorem q984 : (Jvm.Cond.fieldLinkNest "RingDomino" (93 : Nat) "RingDomino$Fault" "at" "I" "RingDomino") ∈ lw_tbl := lw_at lw_m4 165 rfl
theorem q1043 : (Jvm.Cond.selects "RingDomino" ({ cls := "java/lang/Object", name := "hashCode", desc := "()I" } : Jvm.MethodName) ({ cls := "java/lang/Object", name := "hashCode", desc := "()I" } : Jvm.MethodName)) ∈ lw_all := lw_g (lw_at lw_m4 224 rfl) rfl
theorem q1163 : (Jvm.Cond.selects "RingDomino" ({ cls := "java/lang/Object", name := "equals", desc := "(Ljava/lang/Object;)Z" } : Jvm.MethodName) ({ cls := "java/lang/Object", name := "equals", desc := "(Ljava/lang/Object;)Z" } : Jvm.MethodName)) ∈ lw_all := lw_g (lw_at lw_m5 104 rfl) rfl
theorem q1981 : (Jvm.Cond.instanceMethod ({ cls := "RingDomino", name := "errorAt", desc := "()I" } : Jvm.MethodName)) ∈ lw_all := lw_g (lw_at lw_m8 202 rfl) rfl
theorem q1982 : (Jvm.Cond.selects "RingDomino" ({ cls := "RingDomino", name := "errorAt", desc := "()I" } : Jvm.MethodName) ({ cls := "RingDomino", name := "errorAt", desc := "()I" } : Jvm.MethodName)) ∈ lw_all := lw_g (lw_at lw_m8 203 rfl) rfl
theorem q1983 : (Jvm.Cond.code ({ cls := "RingDomino", name := "errorAt", desc := "()I" } : Jvm.MethodName) prog_1_method_11_code (1 : Nat) (Option.some Jvm.ClassFile.FieldType.int)) ∈ lw_all := lw_g (lw_at lw_m8 204 rfl) rfl
theorem q1985 : (Jvm.Cond.instanceMethod ({ cls := "RingDomino", name := "columns", desc := "()I" } : Jvm.MethodName)) ∈ lw_all := lw_g (lw_at lw_m8 206 rfl) rfl
theorem q1986 : (Jvm.Cond.selects "RingDomino" ({ cls := "RingDomino", name := "columns", desc := "()I" } : Jvm.MethodName) ({ cls := "RingDomino", name := "columns", desc := "()I" } : Jvm.MethodName)) ∈ lw_all := lw_g (lw_at lw_m8 207 rfl) rfl
theorem q1987 : (Jvm.Cond.code ({ cls := "RingDomino", name := "columns", desc := "()I" } : Jvm.MethodName) prog_1_method_16_code (1 : Nat) (Option.some Jvm.ClassFile.FieldType.int)) ∈ lw_all := lw_g (lw_at lw_m8 208 rfl) rfl
theorem q1989 : (Jvm.Cond.instanceMethod ({ cls := "RingDomino", name := "rows", desc := "()I" } : Jvm.MethodName)) ∈ lw_all := lw_g (lw_at lw_m8 210 rfl) rfl
theorem q1990 : (Jvm.Cond.selects "RingDomino" ({ cls := "RingDomino", name := "rows", desc := "()I" } : Jvm.MethodName) ({ cls := "RingDomino", name := "rows", desc := "()I" } : Jvm.MethodName)) ∈ lw_all := lw_g (lw_at lw_m8 211 rfl) rfl
theorem q1991 : (Jvm.Cond.code ({ cls := "RingDomino", name := "rows", desc := "()I" } : Jvm.MethodName) prog_1_method_17_code (1 : Nat) (Option.some Jvm.ClassFile.FieldType.int)) ∈ lw_all := lw_g (lw_at lw_m8 212 rfl) rfl
theorem q1993 : (Jvm.Cond.instanceMethod ({ cls := "RingDomino", name := "tiles", desc := "()I" } : Jvm.MethodName)) ∈ lw_all := lw_g (lw_at lw_m8 214 rfl) rfl
theorem q1994 : (Jvm.Cond.selects "RingDomino" ({ cls := "RingDomino", name := "tiles", desc := "()I" } : Jvm.MethodName) ({ cls := "RingDomino", name := "tiles", desc := "()I" } : Jvm.MethodName)) ∈ lw_all := lw_g (lw_at lw_m8 215 rfl) rfl
theorem q1995 : (Jvm.Cond.code ({ cls := "RingDomino", name := "tiles", desc := "()I" } : Jvm.MethodName) prog_1_method_18_code (1 : Nat) (Option.some Jvm.ClassFile.FieldType.int)) ∈ lw_all := lw_g (lw_at lw_m8 216 rfl) rfl
theorem q1996 : (Jvm.Cond.methodLink "RingDomino" (100 : Nat) ({ cls := "java/util/ArrayList", name := "size", desc := "()I" } : Jvm.MethodName)) ∈ lw_all := lw_g (lw_at lw_m8 217 rfl) rfl
theorem q1998 : (Jvm.Cond.instanceMethod ({ cls := "RingDomino", name := "rounds", desc := "()I" } : Jvm.MethodName)) ∈ lw_all := lw_g (lw_at lw_m8 219 rfl) rfl
theorem q1999 : (Jvm.Cond.selects "RingDomino" ({ cls := "RingDomino", name := "rounds", desc := "()I" } : Jvm.MethodName) ({ cls := "RingDomino", name := "rounds", desc := "()I" } : Jvm.MethodName)) ∈ lw_all := lw_g (lw_at lw_m8 220 rfl) rfl
theorem q2000 : (Jvm.Cond.code ({ cls := "RingDomino", name := "rounds", desc := "()I" } : Jvm.MethodName) prog_1_method_19_code (1 : Nat) (Option.some Jvm.ClassFile.FieldType.int)) ∈ lw_all := lw_g (lw_at lw_m8 221 rfl) rfl
theorem q2002 : (Jvm.Cond.instanceMethod ({ cls := "RingDomino", name := "placedTiles", desc := "()I" } : Jvm.MethodName)) ∈ lw_all := lw_g (lw_at lw_m8 223 rfl) rfl
theorem q2003 : (Jvm.Cond.selects "RingDomino" ({ cls := "RingDomino", name := "placedTiles", desc := "()I" } : Jvm.MethodName) ({ cls := "RingDomino", name := "placedTiles", desc := "()I" } : Jvm.MethodName)) ∈ lw_all := lw_g (lw_at lw_m8 224 rfl) rfl
theorem q2004 : (Jvm.Cond.code ({ cls := "RingDomino", name := "placedTiles", desc := "()I" } : Jvm.MethodName) prog_1_method_20_code (1 : Nat) (Option.some Jvm.ClassFile.FieldType.int)) ∈ lw_all := lw_g (lw_at lw_m8 225 rfl) rfl
theorem q2005 : (Jvm.Cond.methodLink "RingDomino" (123 : Nat) ({ cls := "RingDomino$Game", name := "placed", desc := "()I" } : Jvm.MethodName)) ∈ lw_all := lw_g (lw_at lw_m8 226 rfl) rfl
theorem q2018 : (Jvm.Cond.instanceMethod ({ cls := "RingDomino", name := "matches", desc := "()I" } : Jvm.MethodName)) ∈ lw_all := lw_g (lw_at lw_m8 239 rfl) rfl
theorem q2019 : (Jvm.Cond.selects "RingDomino" ({ cls := "RingDomino", name := "matches", desc := "()I" } : Jvm.MethodName) ({ cls := "RingDomino", name := "matches", desc := "()I" } : Jvm.MethodName)) ∈ lw_all := lw_g (lw_at lw_m9 0 rfl) rfl
theorem q2020 : (Jvm.Cond.code ({ cls := "RingDomino", name := "matches", desc := "()I" } : Jvm.MethodName) prog_1_method_21_code (1 : Nat) (Option.some Jvm.ClassFile.FieldType.int)) ∈ lw_all := lw_g (lw_at lw_m9 1 rfl) rfl
theorem q2021 : (Jvm.Cond.methodLink "RingDomino" (126 : Nat) ({ cls := "RingDomino$Game", name := "matches", desc := "()I" } : Jvm.MethodName)) ∈ lw_all := lw_g (lw_at lw_m9 2 rfl) rfl
theorem q2038 : (Jvm.Cond.instanceMethod ({ cls := "RingDomino", name := "points", desc := "()I" } : Jvm.MethodName)) ∈ lw_all := lw_g (lw_at lw_m9 19 rfl) rfl
theorem q2039 : (Jvm.Cond.selects "RingDomino" ({ cls := "RingDomino", name := "points", desc := "()I" } : Jvm.MethodName) ({ cls := "RingDomino", name := "points", desc := "()I" } : Jvm.MethodName)) ∈ lw_all := lw_g (lw_at lw_m9 20 rfl) rfl
theorem q2040 : (Jvm.Cond.code ({ cls := "RingDomino", name := "points", desc := "()I" } : Jvm.MethodName) prog_1_method_22_code (1 : Nat) (Option.some Jvm.ClassFile.FieldType.int)) ∈ lw_all := lw_g (lw_at lw_m9 21 rfl) rfl
theorem q2041 : (Jvm.Cond.methodLink "RingDomino" (129 : Nat) ({ cls := "RingDomino$Game", name := "points", desc := "()I" } : Jvm.MethodName)) ∈ lw_all := lw_g (lw_at lw_m9 22 rfl) rfl
theorem q2070 : (Jvm.Cond.instanceMethod ({ cls := "RingDomino", name := "rings", desc := "()I" } : Jvm.MethodName)) ∈ lw_all := lw_g (lw_at lw_m9 51 rfl) rfl
theorem q2071 : (Jvm.Cond.selects "RingDomino" ({ cls := "RingDomino", name := "rings", desc := "()I" } : Jvm.MethodName) ({ cls := "RingDomino", name := "rings", desc := "()I" } : Jvm.MethodName)) ∈ lw_all := lw_g (lw_at lw_m9 52 rfl) rfl
theorem q2072 : (Jvm.Cond.code ({ cls := "RingDomino", name := "rings", desc := "()I" } : Jvm.MethodName) prog_1_method_23_code (1 : Nat) (Option.some Jvm.ClassFile.FieldType.int)) ∈ lw_all := lw_g (lw_at lw_m9 53 rfl) rfl
theorem q2073 : (Jvm.Cond.methodLink "RingDomino" (132 : Nat) ({ cls := "RingDomino$Game", name := "rings", desc := "()I" } : Jvm.MethodName)) ∈ lw_all := lw_g (lw_at lw_m9 54 rfl) rfl
theorem q2075 : (Jvm.Cond.instanceMethod ({ cls := "RingDomino", name := "groups", desc := "()I" } : Jvm.MethodName)) ∈ lw_all := lw_g (lw_at lw_m9 56 rfl) rfl
theorem q2076 : (Jvm.Cond.selects "RingDomino" ({ cls := "RingDomino", name := "groups", desc := "()I" } : Jvm.MethodName) ({ cls := "RingDomino", name := "groups", desc := "()I" } : Jvm.MethodName)) ∈ lw_all := lw_g (lw_at lw_m9 57 rfl) rfl
theorem q2077 : (Jvm.Cond.code ({ cls := "RingDomino", name := "groups", desc := "()I" } : Jvm.MethodName) prog_1_method_24_code (1 : Nat) (Option.some Jvm.ClassFile.FieldType.int)) ∈ lw_all := lw_g (lw_at lw_m9 58 rfl) rfl
theorem q2078 : (Jvm.Cond.methodLink "RingDomino" (135 : Nat) ({ cls := "RingDomino$Game", name := "groups", desc := "()I" } : Jvm.MethodName)) ∈ lw_all := lw_g (lw_at lw_m9 59 rfl) rfl
theorem q2084 : (Jvm.Cond.instanceMethod ({ cls := "RingDomino", name := "roundsUntilRing", desc := "()I" } : Jvm.MethodName)) ∈ lw_all := lw_g (lw_at lw_m9 65 rfl) rfl
theorem q2085 : (Jvm.Cond.selects "RingDomino" ({ cls := "RingDomino", name := "roundsUntilRing", desc := "()I" } : Jvm.MethodName) ({ cls := "RingDomino", name := "roundsUntilRing", desc := "()I" } : Jvm.MethodName)) ∈ lw_all := lw_g (lw_at lw_m9 66 rfl) rfl
theorem q2086 : (Jvm.Cond.code ({ cls := "RingDomino", name := "roundsUntilRing", desc := "()I" } : Jvm.MethodName) prog_1_method_43_code (2 : Nat) (Option.some Jvm.ClassFile.FieldType.int)) ∈ lw_all := lw_g (lw_at lw_m9 67 rfl) rfl
theorem q2087 : (Jvm.Cond.methodLink "RingDomino" (223 : Nat) ({ cls := "RingDomino$Game", name := "copy", desc := "(LRingDomino$Game;)LRingDomino$Game;" } : Jvm.MethodName)) ∈ lw_all := lw_g (lw_at lw_m9 68 rfl) rfl
theorem q2111 : (Jvm.Cond.methodLink "RingDomino" (220 : Nat) ({ cls := "RingDomino$Game", name := "play", desc := "(I)V" } : Jvm.MethodName)) ∈ lw_all := lw_g (lw_at lw_m9 92 rfl) rfl
theorem q2309 : (Jvm.Cond.static ({ cls := "RingDomino", name := "remainder", desc := "(II)I" } : Jvm.MethodName)) ∈ lw_all := lw_g (lw_at lw_m10 50 rfl) rfl
theorem q2310 : (Jvm.Cond.code ({ cls := "RingDomino", name := "remainder", desc := "(II)I" } : Jvm.MethodName) prog_1_method_6_code (3 : Nat) (Option.some Jvm.ClassFile.FieldType.int)) ∈ lw_all := lw_g (lw_at lw_m10 51 rfl) rfl
theorem q2343 : (Jvm.Cond.fieldLinkNest "RingDomino" (215 : Nat) "RingDomino$Way" "cell" "I" "RingDomino") ∈ lw_tbl := lw_at lw_m10 84 rfl
theorem q2346 : (Jvm.Cond.fieldLinkNest "RingDomino" (234 : Nat) "RingDomino$Way" "turn" "I" "RingDomino") ∈ lw_tbl := lw_at lw_m10 87 rfl
theorem q2388 : (Jvm.Cond.instanceMethod ({ cls := "RingDomino", name := "bestTile", desc := "()I" } : Jvm.MethodName)) ∈ lw_all := lw_g (lw_at lw_m10 129 rfl) rfl
theorem q2389 : (Jvm.Cond.selects "RingDomino" ({ cls := "RingDomino", name := "bestTile", desc := "()I" } : Jvm.MethodName) ({ cls := "RingDomino", name := "bestTile", desc := "()I" } : Jvm.MethodName)) ∈ lw_all := lw_g (lw_at lw_m10 130 rfl) rfl
theorem q2390 : (Jvm.Cond.code ({ cls := "RingDomino", name := "bestTile", desc := "()I" } : Jvm.MethodName) prog_1_method_47_code (1 : Nat) (Option.some Jvm.ClassFile.FieldType.int)) ∈ lw_all := lw_g (lw_at lw_m10 131 rfl) rfl
theorem q2391 : (Jvm.Cond.methodLink "RingDomino" (237 : Nat) ({ cls := "RingDomino$Game", name := "bestTile", desc := "()I" } : Jvm.MethodName)) ∈ lw_all := lw_g (lw_at lw_m10 132 rfl) rfl
theorem q2409 : (Jvm.Cond.instanceMethod ({ cls := "RingDomino", name := "meanMatch", desc := "()D" } : Jvm.MethodName)) ∈ lw_all := lw_g (lw_at lw_m10 150 rfl) rfl
theorem q2410 : (Jvm.Cond.selects "RingDomino" ({ cls := "RingDomino", name := "meanMatch", desc := "()D" } : Jvm.MethodName) ({ cls := "RingDomino", name := "meanMatch", desc := "()D" } : Jvm.MethodName)) ∈ lw_all := lw_g (lw_at lw_m10 151 rfl) rfl
theorem q2411 : (Jvm.Cond.code ({ cls := "RingDomino", name := "meanMatch", desc := "()D" } : Jvm.MethodName) prog_1_method_48_code (1 : Nat) (Option.some Jvm.ClassFile.FieldType.double)) ∈ lw_all := lw_g (lw_at lw_m10 152 rfl) rfl
theorem q2412 : (Jvm.Cond.methodLink "RingDomino" (240 : Nat) ({ cls := "RingDomino$Game", name := "sum", desc := "()I" } : Jvm.MethodName)) ∈ lw_all := lw_g (lw_at lw_m10 153 rfl) rfl
theorem q2414 : (Jvm.Cond.instanceMethod ({ cls := "RingDomino", name := "digest", desc := "()J" } : Jvm.MethodName)) ∈ lw_all := lw_g (lw_at lw_m10 155 rfl) rfl
theorem q2415 : (Jvm.Cond.selects "RingDomino" ({ cls := "RingDomino", name := "digest", desc := "()J" } : Jvm.MethodName) ({ cls := "RingDomino", name := "digest", desc := "()J" } : Jvm.MethodName)) ∈ lw_all := lw_g (lw_at lw_m10 156 rfl) rfl
theorem q2416 : (Jvm.Cond.code ({ cls := "RingDomino", name := "digest", desc := "()J" } : Jvm.MethodName) prog_1_method_50_code (8 : Nat) (Option.some Jvm.ClassFile.FieldType.long)) ∈ lw_all := lw_g (lw_at lw_m10 157 rfl) rfl
theorem q2417 : (Jvm.Cond.constantLong "RingDomino" (243 : Nat) (1009 : Int64)) ∈ lw_all := lw_g (lw_at lw_m10 158 rfl) rfl
theorem q2418 : (Jvm.Cond.methodLink "RingDomino" (245 : Nat) ({ cls := "RingDomino", name := "columns", desc := "()I" } : Jvm.MethodName)) ∈ lw_all := lw_g (lw_at lw_m10 159 rfl) rfl
theorem q2419 : (Jvm.Cond.methodLink "RingDomino" (247 : Nat) ({ cls := "RingDomino", name := "rows", desc := "()I" } : Jvm.MethodName)) ∈ lw_all := lw_g (lw_at lw_m10 160 rfl) rfl
theorem q2420 : (Jvm.Cond.methodLink "RingDomino" (249 : Nat) ({ cls := "RingDomino", name := "tiles", desc := "()I" } : Jvm.MethodName)) ∈ lw_all := lw_g (lw_at lw_m10 161 rfl) rfl
theorem q2421 : (Jvm.Cond.methodLink "RingDomino" (251 : Nat) ({ cls := "RingDomino", name := "rounds", desc := "()I" } : Jvm.MethodName)) ∈ lw_all := lw_g (lw_at lw_m10 162 rfl) rfl
theorem q2422 : (Jvm.Cond.methodLink "RingDomino" (254 : Nat) ({ cls := "RingDomino", name := "placedTiles", desc := "()I" } : Jvm.MethodName)) ∈ lw_all := lw_g (lw_at lw_m10 163 rfl) rfl
theorem q2423 : (Jvm.Cond.methodLink "RingDomino" (257 : Nat) ({ cls := "RingDomino", name := "matches", desc := "()I" } : Jvm.MethodName)) ∈ lw_all := lw_g (lw_at lw_m10 164 rfl) rfl
theorem q2424 : (Jvm.Cond.methodLink "RingDomino" (258 : Nat) ({ cls := "RingDomino", name := "points", desc := "()I" } : Jvm.MethodName)) ∈ lw_all := lw_g (lw_at lw_m10 165 rfl) rfl
theorem q2425 : (Jvm.Cond.methodLink "RingDomino" (259 : Nat) ({ cls := "RingDomino", name := "rings", desc := "()I" } : Jvm.MethodName)) ∈ lw_all := lw_g (lw_at lw_m10 166 rfl) rfl
theorem q2426 : (Jvm.Cond.methodLink "RingDomino" (260 : Nat) ({ cls := "RingDomino", name := "groups", desc := "()I" } : Jvm.MethodName)) ∈ lw_all := lw_g (lw_at lw_m10 167 rfl) rfl
theorem q2427 : (Jvm.Cond.methodLink "RingDomino" (261 : Nat) ({ cls := "RingDomino", name := "bestTile", desc := "()I" } : Jvm.MethodName)) ∈ lw_all := lw_g (lw_at lw_m10 168 rfl) rfl
theorem q2428 : (Jvm.Cond.constantLong "RingDomino" (262 : Nat) (31 : Int64)) ∈ lw_all := lw_g (lw_at lw_m10 169 rfl) rfl
theorem q2429 : (Jvm.Cond.methodLink "RingDomino" (103 : Nat) ({ cls := "RingDomino$Game", name := "cells", desc := "()I" } : Jvm.MethodName)) ∈ lw_all := lw_g (lw_at lw_m10 170 rfl) rfl
theorem q2430 : (Jvm.Cond.methodLink "RingDomino" (264 : Nat) ({ cls := "RingDomino", name := "matchesOf", desc := "(I)I" } : Jvm.MethodName)) ∈ lw_all := lw_g (lw_at lw_m10 171 rfl) rfl
theorem q2431 : (Jvm.Cond.instanceMethod ({ cls := "RingDomino", name := "matchesOf", desc := "(I)I" } : Jvm.MethodName)) ∈ lw_all := lw_g (lw_at lw_m10 172 rfl) rfl
theorem q2432 : (Jvm.Cond.selects "RingDomino" ({ cls := "RingDomino", name := "matchesOf", desc := "(I)I" } : Jvm.MethodName) ({ cls := "RingDomino", name := "matchesOf", desc := "(I)I" } : Jvm.MethodName)) ∈ lw_all := lw_g (lw_at lw_m10 173 rfl) rfl
theorem q2433 : (Jvm.Cond.code ({ cls := "RingDomino", name := "matchesOf", desc := "(I)I" } : Jvm.MethodName) prog_1_method_28_code (2 : Nat) (Option.some Jvm.ClassFile.FieldType.int)) ∈ lw_all := lw_g (lw_at lw_m10 174 rfl) rfl
theorem q2434 : (Jvm.Cond.methodLink "RingDomino" (138 : Nat) ({ cls := "RingDomino", name := "cell", desc := "(I)I" } : Jvm.MethodName)) ∈ lw_all := lw_g (lw_at lw_m10 175 rfl) rfl
theorem q2435 : (Jvm.Cond.privateMethod ({ cls := "RingDomino", name := "cell", desc := "(I)I" } : Jvm.MethodName)) ∈ lw_tbl := lw_at lw_m10 176 rfl
theorem q2436 : (Jvm.Cond.instanceMethod ({ cls := "RingDomino", name := "cell", desc := "(I)I" } : Jvm.MethodName)) ∈ lw_all := lw_g (lw_at lw_m10 177 rfl) rfl
theorem q2437 : (Jvm.Cond.code ({ cls := "RingDomino", name := "cell", desc := "(I)I" } : Jvm.MethodName) prog_1_method_13_code (2 : Nat) (Option.some Jvm.ClassFile.FieldType.int)) ∈ lw_all := lw_g (lw_at lw_m10 178 rfl) rfl
theorem q2438 : (Jvm.Cond.methodLink "RingDomino" (25 : Nat) ({ cls := "RingDomino", name := "requireIndex", desc := "(II)V" } : Jvm.MethodName)) ∈ lw_all := lw_g (lw_at lw_m10 179 rfl) rfl
theorem q2439 : (Jvm.Cond.static ({ cls := "RingDomino", name := "requireIndex", desc := "(II)V" } : Jvm.MethodName)) ∈ lw_all := lw_g (lw_at lw_m10 180 rfl) rfl
theorem q2440 : (Jvm.Cond.code ({ cls := "RingDomino", name := "requireIndex", desc := "(II)V" } : Jvm.MethodName) prog_1_method_3_code (2 : Nat) (Option.none : Option Jvm.ClassFile.FieldType)) ∈ lw_all := lw_g (lw_at lw_m10 181 rfl) rfl
theorem q2441 : (Jvm.Cond.classLink "RingDomino" (10 : Nat) "java/lang/IndexOutOfBoundsException") ∈ lw_all := lw_g (lw_at lw_m10 182 rfl) rfl
theorem q2450 : (Jvm.Cond.methodLink "RingDomino" (12 : Nat) ({ cls := "java/lang/IndexOutOfBoundsException", name := "<init>", desc := "()V" } : Jvm.MethodName)) ∈ lw_all := lw_g (lw_at lw_m10 191 rfl) rfl
theorem q2459 : (Jvm.Cond.methodLink "RingDomino" (152 : Nat) ({ cls := "RingDomino$Game", name := "matchesOf", desc := "(I)I" } : Jvm.MethodName)) ∈ lw_all := lw_g (lw_at lw_m10 200 rfl) rfl
theorem q2460 : (Jvm.Cond.methodLink "RingDomino" (265 : Nat) ({ cls := "RingDomino", name := "isRing", desc := "(I)Z" } : Jvm.MethodName)) ∈ lw_all := lw_g (lw_at lw_m10 201 rfl) rfl
theorem q2461 : (Jvm.Cond.instanceMethod ({ cls := "RingDomino", name := "isRing", desc := "(I)Z" } : Jvm.MethodName)) ∈ lw_all := lw_g (lw_at lw_m10 202 rfl) rfl
theorem q2462 : (Jvm.Cond.selects "RingDomino" ({ cls := "RingDomino", name := "isRing", desc := "(I)Z" } : Jvm.MethodName) ({ cls := "RingDomino", name := "isRing", desc := "(I)Z" } : Jvm.MethodName)) ∈ lw_all := lw_g (lw_at lw_m10 203 rfl) rfl
theorem q2463 : (Jvm.Cond.code ({ cls := "RingDomino", name := "isRing", desc := "(I)Z" } : Jvm.MethodName) prog_1_method_29_code (2 : Nat) (Option.some Jvm.ClassFile.FieldType.boolean)) ∈ lw_all := lw_g (lw_at lw_m10 204 rfl) rfl
theorem q2464 : (Jvm.Cond.methodLink "RingDomino" (155 : Nat) ({ cls := "RingDomino$Game", name := "isRing", desc := "(I)Z" } : Jvm.MethodName)) ∈ lw_all := lw_g (lw_at lw_m10 205 rfl) rfl
theorem q2465 : (Jvm.Cond.methodLink "RingDomino" (266 : Nat) ({ cls := "RingDomino", name := "one", desc := "(Z)I" } : Jvm.MethodName)) ∈ lw_all := lw_g (lw_at lw_m10 206 rfl) rfl
theorem q2466 : (Jvm.Cond.static ({ cls := "RingDomino", name := "one", desc := "(Z)I" } : Jvm.MethodName)) ∈ lw_all := lw_g (lw_at lw_m10 207 rfl) rfl
theorem q2467 : (Jvm.Cond.code ({ cls := "RingDomino", name := "one", desc := "(Z)I" } : Jvm.MethodName) prog_1_method_49_code (1 : Nat) (Option.some Jvm.ClassFile.FieldType.int)) ∈ lw_all := lw_g (lw_at lw_m10 208 rfl) rfl
theorem q2468 : (Jvm.Cond.methodLink "RingDomino" (110 : Nat) ({ cls := "RingDomino$Game", name := "isPlaced", desc := "(I)Z" } : Jvm.MethodName)) ∈ lw_all := lw_g (lw_at lw_m10 209 rfl) rfl
theorem q2469 : (Jvm.Cond.methodLink "RingDomino" (163 : Nat) ({ cls := "java/util/ArrayList", name := "get", desc := "(I)Ljava/lang/Object;" } : Jvm.MethodName)) ∈ lw_all := lw_g (lw_at lw_m10 210 rfl) rfl
theorem q2470 : (Jvm.Cond.classLink "RingDomino" (164 : Nat) "java/lang/Integer") ∈ lw_all := lw_g (lw_at lw_m10 211 rfl) rfl
theorem q2471 : (Jvm.Cond.methodLink "RingDomino" (166 : Nat) ({ cls := "java/lang/Integer", name := "intValue", desc := "()I" } : Jvm.MethodName)) ∈ lw_all := lw_g (lw_at lw_m10 212 rfl) rfl
theorem q2472 : (Jvm.Cond.methodLink "RingDomino" (270 : Nat) ({ cls := "RingDomino", name := "waysOf", desc := "(I)I" } : Jvm.MethodName)) ∈ lw_all := lw_g (lw_at lw_m10 213 rfl) rfl
theorem q2473 : (Jvm.Cond.instanceMethod ({ cls := "RingDomino", name := "waysOf", desc := "(I)I" } : Jvm.MethodName)) ∈ lw_all := lw_g (lw_at lw_m10 214 rfl) rfl
theorem q2474 : (Jvm.Cond.selects "RingDomino" ({ cls := "RingDomino", name := "waysOf", desc := "(I)I" } : Jvm.MethodName) ({ cls := "RingDomino", name := "waysOf", desc := "(I)I" } : Jvm.MethodName)) ∈ lw_all := lw_g (lw_at lw_m10 215 rfl) rfl
theorem q2475 : (Jvm.Cond.code ({ cls := "RingDomino", name := "waysOf", desc := "(I)I" } : Jvm.MethodName) prog_1_method_35_code (2 : Nat) (Option.some Jvm.ClassFile.FieldType.int)) ∈ lw_all := lw_g (lw_at lw_m10 216 rfl) rfl
theorem q2476 : (Jvm.Cond.methodLink "RingDomino" (106 : Nat) ({ cls := "RingDomino", name := "tile", desc := "(I)I" } : Jvm.MethodName)) ∈ lw_all := lw_g (lw_at lw_m10 217 rfl) rfl
theorem q2477 : (Jvm.Cond.privateMethod ({ cls := "RingDomino", name := "tile", desc := "(I)I" } : Jvm.MethodName)) ∈ lw_tbl := lw_at lw_m10 218 rfl
theorem q2478 : (Jvm.Cond.instanceMethod ({ cls := "RingDomino", name := "tile", desc := "(I)I" } : Jvm.MethodName)) ∈ lw_all := lw_g (lw_at lw_m10 219 rfl) rfl
theorem q2479 : (Jvm.Cond.code ({ cls := "RingDomino", name := "tile", desc := "(I)I" } : Jvm.MethodName) prog_1_method_12_code (2 : Nat) (Option.some Jvm.ClassFile.FieldType.int)) ∈ lw_all := lw_g (lw_at lw_m10 220 rfl) rfl
theorem q2480 : (Jvm.Cond.methodLink "RingDomino" (183 : Nat) ({ cls := "RingDomino$Game", name := "ways", desc := "(I)I" } : Jvm.MethodName)) ∈ lw_all := lw_g (lw_at lw_m10 221 rfl) rfl
theorem q2481 : (Jvm.Cond.methodLink "RingDomino" (273 : Nat) ({ cls := "RingDomino", name := "isLeftover", desc := "(I)Z" } : Jvm.MethodName)) ∈ lw_all := lw_g (lw_at lw_m10 222 rfl) rfl
theorem q2482 : (Jvm.Cond.instanceMethod ({ cls := "RingDomino", name := "isLeftover", desc := "(I)Z" } : Jvm.MethodName)) ∈ lw_all := lw_g (lw_at lw_m10 223 rfl) rfl
theorem q2483 : (Jvm.Cond.selects "RingDomino" ({ cls := "RingDomino", name := "isLeftover", desc := "(I)Z" } : Jvm.MethodName) ({ cls := "RingDomino", name := "isLeftover", desc := "(I)Z" } : Jvm.MethodName)) ∈ lw_all := lw_g (lw_at lw_m10 224 rfl) rfl
theorem q2484 : (Jvm.Cond.code ({ cls := "RingDomino", name := "isLeftover", desc := "(I)Z" } : Jvm.MethodName) prog_1_method_36_code (2 : Nat) (Option.some Jvm.ClassFile.FieldType.boolean)) ∈ lw_all := lw_g (lw_at lw_m10 225 rfl) rfl
theorem q2485 : (Jvm.Cond.methodLink "RingDomino" (186 : Nat) ({ cls := "RingDomino$Game", name := "isLeft", desc := "(I)Z" } : Jvm.MethodName)) ∈ lw_all := lw_g (lw_at lw_m10 226 rfl) rfl
theorem q2495 : (Jvm.Cond.instanceMethod ({ cls := "RingDomino", name := "feed", desc := "(IIIII)I" } : Jvm.MethodName)) ∈ lw_all := lw_g (lw_at lw_m10 236 rfl) rfl
theorem q2496 : (Jvm.Cond.selects "RingDomino" ({ cls := "RingDomino", name := "feed", desc := "(IIIII)I" } : Jvm.MethodName) ({ cls := "RingDomino", name := "feed", desc := "(IIIII)I" } : Jvm.MethodName)) ∈ lw_all := lw_g (lw_at lw_m10 237 rfl) rfl
theorem q2497 : (Jvm.Cond.code ({ cls := "RingDomino", name := "feed", desc := "(IIIII)I" } : Jvm.MethodName) prog_1_method_8_code (6 : Nat) (Option.some Jvm.ClassFile.FieldType.int)) ∈ lw_all := lw_g (lw_at lw_m10 238 rfl) rfl
theorem q2498 : (Jvm.Cond.methodLink "RingDomino" (59 : Nat) ({ cls := "RingDomino", name := "requireState", desc := "(Z)V" } : Jvm.MethodName)) ∈ lw_all := lw_g (lw_at lw_m10 239 rfl) rfl
theorem q2499 : (Jvm.Cond.static ({ cls := "RingDomino", name := "requireState", desc := "(Z)V" } : Jvm.MethodName)) ∈ lw_all := lw_g (lw_at lw_m11 0 rfl) rfl
theorem q2500 : (Jvm.Cond.code ({ cls := "RingDomino", name := "requireState", desc := "(Z)V" } : Jvm.MethodName) prog_1_method_2_code (1 : Nat) (Option.none : Option Jvm.ClassFile.FieldType)) ∈ lw_all := lw_g (lw_at lw_m11 1 rfl) rfl
theorem q2501 : (Jvm.Cond.classLink "RingDomino" (7 : Nat) "java/lang/IllegalStateException") ∈ lw_all := lw_g (lw_at lw_m11 2 rfl) rfl
theorem q2510 : (Jvm.Cond.methodLink "RingDomino" (9 : Nat) ({ cls := "java/lang/IllegalStateException", name := "<init>", desc := "()V" } : Jvm.MethodName)) ∈ lw_all := lw_g (lw_at lw_m11 11 rfl) rfl
theorem q2516 : (Jvm.Cond.methodLink "RingDomino" (62 : Nat) ({ cls := "RingDomino$Tape", name := "put", desc := "(I)V" } : Jvm.MethodName)) ∈ lw_all := lw_g (lw_at lw_m11 17 rfl) rfl
theorem q2525 : (Jvm.Cond.instanceMethod ({ cls := "RingDomino", name := "trim", desc := "(I)I" } : Jvm.MethodName)) ∈ lw_all := lw_g (lw_at lw_m11 26 rfl) rfl
theorem q2526 : (Jvm.Cond.selects "RingDomino" ({ cls := "RingDomino", name := "trim", desc := "(I)I" } : Jvm.MethodName) ({ cls := "RingDomino", name := "trim", desc := "(I)I" } : Jvm.MethodName)) ∈ lw_all := lw_g (lw_at lw_m11 27 rfl) rfl
theorem q2527 : (Jvm.Cond.code ({ cls := "RingDomino", name := "trim", desc := "(I)I" } : Jvm.MethodName) prog_1_method_9_code (2 : Nat) (Option.some Jvm.ClassFile.FieldType.int)) ∈ lw_all := lw_g (lw_at lw_m11 28 rfl) rfl
theorem q2528 : (Jvm.Cond.methodLink "RingDomino" (66 : Nat) ({ cls := "RingDomino", name := "requireFrom", desc := "(III)V" } : Jvm.MethodName)) ∈ lw_all := lw_g (lw_at lw_m11 29 rfl) rfl
theorem q2529 : (Jvm.Cond.static ({ cls := "RingDomino", name := "requireFrom", desc := "(III)V" } : Jvm.MethodName)) ∈ lw_all := lw_g (lw_at lw_m11 30 rfl) rfl
theorem q2530 : (Jvm.Cond.code ({ cls := "RingDomino", name := "requireFrom", desc := "(III)V" } : Jvm.MethodName) prog_1_method_4_code (3 : Nat) (Option.none : Option Jvm.ClassFile.FieldType)) ∈ lw_all := lw_g (lw_at lw_m11 31 rfl) rfl
theorem q2531 : (Jvm.Cond.methodLink "RingDomino" (13 : Nat) ({ cls := "RingDomino", name := "require", desc := "(Z)V" } : Jvm.MethodName)) ∈ lw_all := lw_g (lw_at lw_m11 32 rfl) rfl
theorem q2532 : (Jvm.Cond.static ({ cls := "RingDomino", name := "require", desc := "(Z)V" } : Jvm.MethodName)) ∈ lw_all := lw_g (lw_at lw_m11 33 rfl) rfl
theorem q2533 : (Jvm.Cond.code ({ cls := "RingDomino", name := "require", desc := "(Z)V" } : Jvm.MethodName) prog_1_method_1_code (1 : Nat) (Option.none : Option Jvm.ClassFile.FieldType)) ∈ lw_all := lw_g (lw_at lw_m11 34 rfl) rfl
theorem q2534 : (Jvm.Cond.classLink "RingDomino" (1 : Nat) "java/lang/IllegalArgumentException") ∈ lw_all := lw_g (lw_at lw_m11 35 rfl) rfl
theorem q2535 : (Jvm.Cond.methodLink "RingDomino" (3 : Nat) ({ cls := "java/lang/IllegalArgumentException", name := "<init>", desc := "()V" } : Jvm.MethodName)) ∈ lw_all := lw_g (lw_at lw_m11 36 rfl) rfl
theorem q2562 : (Jvm.Cond.instanceMethod ({ cls := "RingDomino", name := "hasTile", desc := "(I)Z" } : Jvm.MethodName)) ∈ lw_all := lw_g (lw_at lw_m11 63 rfl) rfl
theorem q2563 : (Jvm.Cond.selects "RingDomino" ({ cls := "RingDomino", name := "hasTile", desc := "(I)Z" } : Jvm.MethodName) ({ cls := "RingDomino", name := "hasTile", desc := "(I)Z" } : Jvm.MethodName)) ∈ lw_all := lw_g (lw_at lw_m11 64 rfl) rfl
theorem q2564 : (Jvm.Cond.code ({ cls := "RingDomino", name := "hasTile", desc := "(I)Z" } : Jvm.MethodName) prog_1_method_25_code (2 : Nat) (Option.some Jvm.ClassFile.FieldType.boolean)) ∈ lw_all := lw_g (lw_at lw_m11 65 rfl) rfl
theorem q2565 : (Jvm.Cond.methodLink "RingDomino" (141 : Nat) ({ cls := "RingDomino$Game", name := "hasTile", desc := "(I)Z" } : Jvm.MethodName)) ∈ lw_all := lw_g (lw_at lw_m11 66 rfl) rfl
theorem q2570 : (Jvm.Cond.instanceMethod ({ cls := "RingDomino", name := "tileAt", desc := "(I)I" } : Jvm.MethodName)) ∈ lw_all := lw_g (lw_at lw_m11 71 rfl) rfl
theorem q2571 : (Jvm.Cond.selects "RingDomino" ({ cls := "RingDomino", name := "tileAt", desc := "(I)I" } : Jvm.MethodName) ({ cls := "RingDomino", name := "tileAt", desc := "(I)I" } : Jvm.MethodName)) ∈ lw_all := lw_g (lw_at lw_m11 72 rfl) rfl
theorem q2572 : (Jvm.Cond.code ({ cls := "RingDomino", name := "tileAt", desc := "(I)I" } : Jvm.MethodName) prog_1_method_26_code (2 : Nat) (Option.some Jvm.ClassFile.FieldType.int)) ∈ lw_all := lw_g (lw_at lw_m11 73 rfl) rfl
theorem q2577 : (Jvm.Cond.instanceMethod ({ cls := "RingDomino", name := "numberAt", desc := "(II)I" } : Jvm.MethodName)) ∈ lw_all := lw_g (lw_at lw_m11 78 rfl) rfl
theorem q2578 : (Jvm.Cond.selects "RingDomino" ({ cls := "RingDomino", name := "numberAt", desc := "(II)I" } : Jvm.MethodName) ({ cls := "RingDomino", name := "numberAt", desc := "(II)I" } : Jvm.MethodName)) ∈ lw_all := lw_g (lw_at lw_m11 79 rfl) rfl
theorem q2579 : (Jvm.Cond.code ({ cls := "RingDomino", name := "numberAt", desc := "(II)I" } : Jvm.MethodName) prog_1_method_27_code (3 : Nat) (Option.some Jvm.ClassFile.FieldType.int)) ∈ lw_all := lw_g (lw_at lw_m11 80 rfl) rfl
theorem q2580 : (Jvm.Cond.methodLink "RingDomino" (148 : Nat) ({ cls := "RingDomino$Game", name := "number", desc := "(II)I" } : Jvm.MethodName)) ∈ lw_all := lw_g (lw_at lw_m11 81 rfl) rfl
theorem q2593 : (Jvm.Cond.instanceMethod ({ cls := "RingDomino", name := "isPlaced", desc := "(I)Z" } : Jvm.MethodName)) ∈ lw_all := lw_g (lw_at lw_m11 94 rfl) rfl
theorem q2594 : (Jvm.Cond.selects "RingDomino" ({ cls := "RingDomino", name := "isPlaced", desc := "(I)Z" } : Jvm.MethodName) ({ cls := "RingDomino", name := "isPlaced", desc := "(I)Z" } : Jvm.MethodName)) ∈ lw_all := lw_g (lw_at lw_m11 95 rfl) rfl
theorem q2595 : (Jvm.Cond.code ({ cls := "RingDomino", name := "isPlaced", desc := "(I)Z" } : Jvm.MethodName) prog_1_method_30_code (2 : Nat) (Option.some Jvm.ClassFile.FieldType.boolean)) ∈ lw_all := lw_g (lw_at lw_m11 96 rfl) rfl
theorem q2600 : (Jvm.Cond.instanceMethod ({ cls := "RingDomino", name := "cellOf", desc := "(I)I" } : Jvm.MethodName)) ∈ lw_all := lw_g (lw_at lw_m11 101 rfl) rfl
theorem q2601 : (Jvm.Cond.selects "RingDomino" ({ cls := "RingDomino", name := "cellOf", desc := "(I)I" } : Jvm.MethodName) ({ cls := "RingDomino", name := "cellOf", desc := "(I)I" } : Jvm.MethodName)) ∈ lw_all := lw_g (lw_at lw_m11 102 rfl) rfl
theorem q2602 : (Jvm.Cond.code ({ cls := "RingDomino", name := "cellOf", desc := "(I)I" } : Jvm.MethodName) prog_1_method_31_code (2 : Nat) (Option.some Jvm.ClassFile.FieldType.int)) ∈ lw_all := lw_g (lw_at lw_m11 103 rfl) rfl
theorem q2603 : (Jvm.Cond.methodLink "RingDomino" (160 : Nat) ({ cls := "RingDomino", name := "lying", desc := "(I)I" } : Jvm.MethodName)) ∈ lw_all := lw_g (lw_at lw_m11 104 rfl) rfl
theorem q2604 : (Jvm.Cond.privateMethod ({ cls := "RingDomino", name := "lying", desc := "(I)I" } : Jvm.MethodName)) ∈ lw_tbl := lw_at lw_m11 105 rfl
theorem q2605 : (Jvm.Cond.instanceMethod ({ cls := "RingDomino", name := "lying", desc := "(I)I" } : Jvm.MethodName)) ∈ lw_all := lw_g (lw_at lw_m11 106 rfl) rfl
theorem q2606 : (Jvm.Cond.code ({ cls := "RingDomino", name := "lying", desc := "(I)I" } : Jvm.MethodName) prog_1_method_15_code (2 : Nat) (Option.some Jvm.ClassFile.FieldType.int)) ∈ lw_all := lw_g (lw_at lw_m11 107 rfl) rfl
theorem q2611 : (Jvm.Cond.instanceMethod ({ cls := "RingDomino", name := "turnOf", desc := "(I)I" } : Jvm.MethodName)) ∈ lw_all := lw_g (lw_at lw_m11 112 rfl) rfl
theorem q2612 : (Jvm.Cond.selects "RingDomino" ({ cls := "RingDomino", name := "turnOf", desc := "(I)I" } : Jvm.MethodName) ({ cls := "RingDomino", name := "turnOf", desc := "(I)I" } : Jvm.MethodName)) ∈ lw_all := lw_g (lw_at lw_m11 113 rfl) rfl
theorem q2613 : (Jvm.Cond.code ({ cls := "RingDomino", name := "turnOf", desc := "(I)I" } : Jvm.MethodName) prog_1_method_32_code (2 : Nat) (Option.some Jvm.ClassFile.FieldType.int)) ∈ lw_all := lw_g (lw_at lw_m11 114 rfl) rfl
theorem q2618 : (Jvm.Cond.instanceMethod ({ cls := "RingDomino", name := "fits", desc := "(III)Z" } : Jvm.MethodName)) ∈ lw_all := lw_g (lw_at lw_m11 119 rfl) rfl
theorem q2619 : (Jvm.Cond.selects "RingDomino" ({ cls := "RingDomino", name := "fits", desc := "(III)Z" } : Jvm.MethodName) ({ cls := "RingDomino", name := "fits", desc := "(III)Z" } : Jvm.MethodName)) ∈ lw_all := lw_g (lw_at lw_m11 120 rfl) rfl
theorem q2620 : (Jvm.Cond.code ({ cls := "RingDomino", name := "fits", desc := "(III)Z" } : Jvm.MethodName) prog_1_method_33_code (4 : Nat) (Option.some Jvm.ClassFile.FieldType.boolean)) ∈ lw_all := lw_g (lw_at lw_m11 121 rfl) rfl
theorem q2621 : (Jvm.Cond.methodLink "RingDomino" (172 : Nat) ({ cls := "RingDomino", name := "edge", desc := "(I)I" } : Jvm.MethodName)) ∈ lw_all := lw_g (lw_at lw_m11 122 rfl) rfl
theorem q2622 : (Jvm.Cond.privateMethod ({ cls := "RingDomino", name := "edge", desc := "(I)I" } : Jvm.MethodName)) ∈ lw_tbl := lw_at lw_m11 123 rfl
theorem q2623 : (Jvm.Cond.instanceMethod ({ cls := "RingDomino", name := "edge", desc := "(I)I" } : Jvm.MethodName)) ∈ lw_all := lw_g (lw_at lw_m11 124 rfl) rfl
theorem q2624 : (Jvm.Cond.code ({ cls := "RingDomino", name := "edge", desc := "(I)I" } : Jvm.MethodName) prog_1_method_14_code (2 : Nat) (Option.some Jvm.ClassFile.FieldType.int)) ∈ lw_all := lw_g (lw_at lw_m11 125 rfl) rfl
theorem q2625 : (Jvm.Cond.methodLink "RingDomino" (175 : Nat) ({ cls := "RingDomino$Game", name := "fits", desc := "(III)Z" } : Jvm.MethodName)) ∈ lw_all := lw_g (lw_at lw_m11 126 rfl) rfl
theorem q2630 : (Jvm.Cond.instanceMethod ({ cls := "RingDomino", name := "edgeAgainst", desc := "(III)I" } : Jvm.MethodName)) ∈ lw_all := lw_g (lw_at lw_m11 131 rfl) rfl
theorem q2631 : (Jvm.Cond.selects "RingDomino" ({ cls := "RingDomino", name := "edgeAgainst", desc := "(III)I" } : Jvm.MethodName) ({ cls := "RingDomino", name := "edgeAgainst", desc := "(III)I" } : Jvm.MethodName)) ∈ lw_all := lw_g (lw_at lw_m11 132 rfl) rfl
theorem q2632 : (Jvm.Cond.code ({ cls := "RingDomino", name := "edgeAgainst", desc := "(III)I" } : Jvm.MethodName) prog_1_method_34_code (4 : Nat) (Option.some Jvm.ClassFile.FieldType.int)) ∈ lw_all := lw_g (lw_at lw_m11 133 rfl) rfl
theorem q2633 : (Jvm.Cond.methodLink "RingDomino" (179 : Nat) ({ cls := "RingDomino$Game", name := "against", desc := "(III)I" } : Jvm.MethodName)) ∈ lw_all := lw_g (lw_at lw_m11 134 rfl) rfl
theorem q2646 : (Jvm.Cond.instanceMethod ({ cls := "RingDomino", name := "looksToProve", desc := "(I)I" } : Jvm.MethodName)) ∈ lw_all := lw_g (lw_at lw_m11 147 rfl) rfl
theorem q2647 : (Jvm.Cond.selects "RingDomino" ({ cls := "RingDomino", name := "looksToProve", desc := "(I)I" } : Jvm.MethodName) ({ cls := "RingDomino", name := "looksToProve", desc := "(I)I" } : Jvm.MethodName)) ∈ lw_all := lw_g (lw_at lw_m11 148 rfl) rfl
theorem q2648 : (Jvm.Cond.code ({ cls := "RingDomino", name := "looksToProve", desc := "(I)I" } : Jvm.MethodName) prog_1_method_37_code (2 : Nat) (Option.some Jvm.ClassFile.FieldType.int)) ∈ lw_all := lw_g (lw_at lw_m11 149 rfl) rfl
theorem q2649 : (Jvm.Cond.methodLink "RingDomino" (189 : Nat) ({ cls := "RingDomino$Game", name := "looks", desc := "(I)I" } : Jvm.MethodName)) ∈ lw_all := lw_g (lw_at lw_m11 150 rfl) rfl
theorem q2661 : (Jvm.Cond.instanceMethod ({ cls := "RingDomino", name := "putTile", desc := "(III)I" } : Jvm.MethodName)) ∈ lw_all := lw_g (lw_at lw_m11 162 rfl) rfl
theorem q2662 : (Jvm.Cond.selects "RingDomino" ({ cls := "RingDomino", name := "putTile", desc := "(III)I" } : Jvm.MethodName) ({ cls := "RingDomino", name := "putTile", desc := "(III)I" } : Jvm.MethodName)) ∈ lw_all := lw_g (lw_at lw_m11 163 rfl) rfl
theorem q2663 : (Jvm.Cond.code ({ cls := "RingDomino", name := "putTile", desc := "(III)I" } : Jvm.MethodName) prog_1_method_38_code (5 : Nat) (Option.some Jvm.ClassFile.FieldType.int)) ∈ lw_all := lw_g (lw_at lw_m11 164 rfl) rfl
theorem q2664 : (Jvm.Cond.methodLink "RingDomino" (192 : Nat) ({ cls := "RingDomino$Game", name := "put", desc := "(III)Z" } : Jvm.MethodName)) ∈ lw_all := lw_g (lw_at lw_m11 165 rfl) rfl
theorem q2669 : (Jvm.Cond.instanceMethod ({ cls := "RingDomino", name := "takeTile", desc := "(I)I" } : Jvm.MethodName)) ∈ lw_all := lw_g (lw_at lw_m11 170 rfl) rfl
theorem q2670 : (Jvm.Cond.selects "RingDomino" ({ cls := "RingDomino", name := "takeTile", desc := "(I)I" } : Jvm.MethodName) ({ cls := "RingDomino", name := "takeTile", desc := "(I)I" } : Jvm.MethodName)) ∈ lw_all := lw_g (lw_at lw_m11 171 rfl) rfl
theorem q2671 : (Jvm.Cond.code ({ cls := "RingDomino", name := "takeTile", desc := "(I)I" } : Jvm.MethodName) prog_1_method_39_code (3 : Nat) (Option.some Jvm.ClassFile.FieldType.int)) ∈ lw_all := lw_g (lw_at lw_m11 172 rfl) rfl
theorem q2672 : (Jvm.Cond.methodLink "RingDomino" (194 : Nat) ({ cls := "RingDomino$Game", name := "take", desc := "(I)Z" } : Jvm.MethodName)) ∈ lw_all := lw_g (lw_at lw_m11 173 rfl) rfl
theorem q2677 : (Jvm.Cond.instanceMethod ({ cls := "RingDomino", name := "fitTile", desc := "(I)I" } : Jvm.MethodName)) ∈ lw_all := lw_g (lw_at lw_m11 178 rfl) rfl
theorem q2678 : (Jvm.Cond.selects "RingDomino" ({ cls := "RingDomino", name := "fitTile", desc := "(I)I" } : Jvm.MethodName) ({ cls := "RingDomino", name := "fitTile", desc := "(I)I" } : Jvm.MethodName)) ∈ lw_all := lw_g (lw_at lw_m11 179 rfl) rfl
theorem q2679 : (Jvm.Cond.code ({ cls := "RingDomino", name := "fitTile", desc := "(I)I" } : Jvm.MethodName) prog_1_method_40_code (3 : Nat) (Option.some Jvm.ClassFile.FieldType.int)) ∈ lw_all := lw_g (lw_at lw_m11 180 rfl) rfl
theorem q2680 : (Jvm.Cond.methodLink "RingDomino" (197 : Nat) ({ cls := "RingDomino$Game", name := "firstWay", desc := "(I)Ljava/util/Optional;" } : Jvm.MethodName)) ∈ lw_all := lw_g (lw_at lw_m11 181 rfl) rfl
theorem q2681 : (Jvm.Cond.methodLink "RingDomino" (201 : Nat) ({ cls := "java/util/Optional", name := "isPresent", desc := "()Z" } : Jvm.MethodName)) ∈ lw_all := lw_g (lw_at lw_m11 182 rfl) rfl
theorem q2682 : (Jvm.Cond.methodLink "RingDomino" (207 : Nat) ({ cls := "java/util/Optional", name := "get", desc := "()Ljava/lang/Object;" } : Jvm.MethodName)) ∈ lw_all := lw_g (lw_at lw_m11 183 rfl) rfl
theorem q2683 : (Jvm.Cond.classLink "RingDomino" (210 : Nat) "RingDomino$Way") ∈ lw_all := lw_g (lw_at lw_m11 184 rfl) rfl
theorem q2684 : (Jvm.Cond.methodLink "RingDomino" (212 : Nat) ({ cls := "RingDomino$Game", name := "put", desc := "(ILRingDomino$Way;)Z" } : Jvm.MethodName)) ∈ lw_all := lw_g (lw_at lw_m11 185 rfl) rfl
theorem q2689 : (Jvm.Cond.instanceMethod ({ cls := "RingDomino", name := "playRounds", desc := "(I)I" } : Jvm.MethodName)) ∈ lw_all := lw_g (lw_at lw_m11 190 rfl) rfl
theorem q2690 : (Jvm.Cond.selects "RingDomino" ({ cls := "RingDomino", name := "playRounds", desc := "(I)I" } : Jvm.MethodName) ({ cls := "RingDomino", name := "playRounds", desc := "(I)I" } : Jvm.MethodName)) ∈ lw_all := lw_g (lw_at lw_m11 191 rfl) rfl
theorem q2691 : (Jvm.Cond.code ({ cls := "RingDomino", name := "playRounds", desc := "(I)I" } : Jvm.MethodName) prog_1_method_41_code (3 : Nat) (Option.some Jvm.ClassFile.FieldType.int)) ∈ lw_all := lw_g (lw_at lw_m11 192 rfl) rfl
theorem q2696 : (Jvm.Cond.instanceMethod ({ cls := "RingDomino", name := "pointsAfter", desc := "(I)I" } : Jvm.MethodName)) ∈ lw_all := lw_g (lw_at lw_m11 197 rfl) rfl
theorem q2697 : (Jvm.Cond.selects "RingDomino" ({ cls := "RingDomino", name := "pointsAfter", desc := "(I)I" } : Jvm.MethodName) ({ cls := "RingDomino", name := "pointsAfter", desc := "(I)I" } : Jvm.MethodName)) ∈ lw_all := lw_g (lw_at lw_m11 198 rfl) rfl
theorem q2698 : (Jvm.Cond.code ({ cls := "RingDomino", name := "pointsAfter", desc := "(I)I" } : Jvm.MethodName) prog_1_method_42_code (2 : Nat) (Option.some Jvm.ClassFile.FieldType.int)) ∈ lw_all := lw_g (lw_at lw_m11 199 rfl) rfl
theorem q2703 : (Jvm.Cond.instanceMethod ({ cls := "RingDomino", name := "bestCell", desc := "(I)I" } : Jvm.MethodName)) ∈ lw_all := lw_g (lw_at lw_m11 204 rfl) rfl
theorem q2704 : (Jvm.Cond.selects "RingDomino" ({ cls := "RingDomino", name := "bestCell", desc := "(I)I" } : Jvm.MethodName) ({ cls := "RingDomino", name := "bestCell", desc := "(I)I" } : Jvm.MethodName)) ∈ lw_all := lw_g (lw_at lw_m11 205 rfl) rfl
theorem q2705 : (Jvm.Cond.code ({ cls := "RingDomino", name := "bestCell", desc := "(I)I" } : Jvm.MethodName) prog_1_method_45_code (2 : Nat) (Option.some Jvm.ClassFile.FieldType.int)) ∈ lw_all := lw_g (lw_at lw_m11 206 rfl) rfl
theorem q2706 : (Jvm.Cond.methodLink "RingDomino" (230 : Nat) ({ cls := "RingDomino", name := "best", desc := "(I)LRingDomino$Way;" } : Jvm.MethodName)) ∈ lw_all := lw_g (lw_at lw_m11 207 rfl) rfl
theorem q2707 : (Jvm.Cond.privateMethod ({ cls := "RingDomino", name := "best", desc := "(I)LRingDomino$Way;" } : Jvm.MethodName)) ∈ lw_tbl := lw_at lw_m11 208 rfl
theorem q2708 : (Jvm.Cond.instanceMethod ({ cls := "RingDomino", name := "best", desc := "(I)LRingDomino$Way;" } : Jvm.MethodName)) ∈ lw_all := lw_g (lw_at lw_m11 209 rfl) rfl
theorem q2709 : (Jvm.Cond.code ({ cls := "RingDomino", name := "best", desc := "(I)LRingDomino$Way;" } : Jvm.MethodName) prog_1_method_44_code (3 : Nat) (Option.some (Jvm.ClassFile.FieldType.object "RingDomino$Way"))) ∈ lw_all := lw_g (lw_at lw_m11 210 rfl) rfl
theorem q2710 : (Jvm.Cond.methodLink "RingDomino" (227 : Nat) ({ cls := "RingDomino$Game", name := "bestWay", desc := "(I)Ljava/util/Optional;" } : Jvm.MethodName)) ∈ lw_all := lw_g (lw_at lw_m11 211 rfl) rfl
theorem q2715 : (Jvm.Cond.instanceMethod ({ cls := "RingDomino", name := "bestTurn", desc := "(I)I" } : Jvm.MethodName)) ∈ lw_all := lw_g (lw_at lw_m11 216 rfl) rfl
theorem q2716 : (Jvm.Cond.selects "RingDomino" ({ cls := "RingDomino", name := "bestTurn", desc := "(I)I" } : Jvm.MethodName) ({ cls := "RingDomino", name := "bestTurn", desc := "(I)I" } : Jvm.MethodName)) ∈ lw_all := lw_g (lw_at lw_m11 217 rfl) rfl
theorem q2717 : (Jvm.Cond.code ({ cls := "RingDomino", name := "bestTurn", desc := "(I)I" } : Jvm.MethodName) prog_1_method_46_code (2 : Nat) (Option.some Jvm.ClassFile.FieldType.int)) ∈ lw_all := lw_g (lw_at lw_m11 218 rfl) rfl
theorem q3402 : (Jvm.Cond.castable "RingDomino" "java/lang/Object") ∈ lw_tbl := lw_at lw_m14 183 rfl
theorem in_X1 : ∀ w ∈ wsX10, w ∈ lw_all := lw_in wsX10 [272, 274, 276, 278] (by decide +kernel) (by decide +kernel)

/-! RingDomino$Tape -/
def RX2 : String := "RingDomino$Tape"
def TX2 : u_T := fun k => match k with
  | 0 => ("RingDomino$Tape", "bytes", "[B", true)
  | _ => ("RingDomino$Tape", "size", "I", false)
def tyX2 : Nat → FieldType := fun k => match k with
  | 0 => .array .byte
  | _ => .int
abbrev wsX20 : List Cond := u_ws RX2 TX2 2
theorem nmX2 : ∀ a, a < 2 → ∀ b, b < 2 → a ≠ b → (TX2 a).2.1 ≠ (TX2 b).2.1 := by decide +kernel
theorem tyX2_ok : ∀ k, k < 2 → parseFieldDescriptor (TX2 k).2.2.1 = some (tyX2 k) := by decide +kernel
abbrev cX2_init : ByteArray := prog_29_method_1_code
def yX2_init : MethodName := ⟨RX2, "<init>", "()V"⟩
def dkwX2_init_0 : List UInt8 := [42, 183, 0, 3, 42, 17, 7, 208, 188, 8, 181, 0, 9, 177]
abbrev dktX2_init_0 : List UInt8 := dkwX2_init_0 ++ []
theorem dksX2_init_0 : cX2_init.data.toList.drop 0 = dktX2_init_0 := by decide +kernel
theorem dX2_init_0 : decode cX2_init 0 = .ok (.aload_n 0, 1) := dk_42 (dk_at dksX2_init_0 0 rfl rfl)
theorem dX2_init_1 : decode cX2_init 1 = .ok (.invokespecial 3, 3) := dk_183 0 3 (dk_at dksX2_init_0 1 rfl rfl)
theorem dX2_init_4 : decode cX2_init 4 = .ok (.aload_n 0, 1) := dk_42 (dk_at dksX2_init_0 4 rfl rfl)
theorem dX2_init_5 : decode cX2_init 5 = .ok (.sipush 2000, 3) := dk_17 7 208 (dk_at dksX2_init_0 5 rfl rfl)
theorem dX2_init_8 : decode cX2_init 8 = .ok (.newarray .byte, 2) := dk_188_8 (dk_at dksX2_init_0 8 rfl rfl)
theorem dX2_init_10 : decode cX2_init 10 = .ok (.putfield 9, 3) := dk_181 0 9 (dk_at dksX2_init_0 10 rfl rfl)
theorem dX2_init_13 : decode cX2_init 13 = .ok (.return_, 1) := dk_177 (dk_at dksX2_init_0 13 rfl rfl)
abbrev cX2_at : ByteArray := prog_29_method_3_code
def yX2_at : MethodName := ⟨RX2, "at", "(I)I"⟩
def dkwX2_at_0 : List UInt8 := [27, 42, 180, 0, 15, 162, 0, 16, 42, 180, 0, 9, 27, 51, 17, 0, 255, 126, 167, 0, 4, 3, 172]
abbrev dktX2_at_0 : List UInt8 := dkwX2_at_0 ++ []
theorem dksX2_at_0 : cX2_at.data.toList.drop 0 = dktX2_at_0 := by decide +kernel
theorem dX2_at_0 : decode cX2_at 0 = .ok (.iload_n 1, 1) := dk_27 (dk_at dksX2_at_0 0 rfl rfl)
theorem dX2_at_1 : decode cX2_at 1 = .ok (.aload_n 0, 1) := dk_42 (dk_at dksX2_at_0 1 rfl rfl)
theorem dX2_at_2 : decode cX2_at 2 = .ok (.getfield 15, 3) := dk_180 0 15 (dk_at dksX2_at_0 2 rfl rfl)
theorem dX2_at_5 : decode cX2_at 5 = .ok (.if_icmp .ge 16, 3) := dk_162 0 16 (dk_at dksX2_at_0 5 rfl rfl)
theorem dX2_at_8 : decode cX2_at 8 = .ok (.aload_n 0, 1) := dk_42 (dk_at dksX2_at_0 8 rfl rfl)
theorem dX2_at_9 : decode cX2_at 9 = .ok (.getfield 9, 3) := dk_180 0 9 (dk_at dksX2_at_0 9 rfl rfl)
theorem dX2_at_12 : decode cX2_at 12 = .ok (.iload_n 1, 1) := dk_27 (dk_at dksX2_at_0 12 rfl rfl)
theorem dX2_at_13 : decode cX2_at 13 = .ok (.baload, 1) := dk_51 (dk_at dksX2_at_0 13 rfl rfl)
theorem dX2_at_14 : decode cX2_at 14 = .ok (.sipush 255, 3) := dk_17 0 255 (dk_at dksX2_at_0 14 rfl rfl)
theorem dX2_at_17 : decode cX2_at 17 = .ok (.iand, 1) := dk_126 (dk_at dksX2_at_0 17 rfl rfl)
theorem dX2_at_18 : decode cX2_at 18 = .ok (.goto 4, 3) := dk_167 0 4 (dk_at dksX2_at_0 18 rfl rfl)
theorem dX2_at_21 : decode cX2_at 21 = .ok (.iconst 0, 1) := dk_3 (dk_at dksX2_at_0 21 rfl rfl)
theorem dX2_at_22 : decode cX2_at 22 = .ok (.ireturn, 1) := dk_172 (dk_at dksX2_at_0 22 rfl rfl)
abbrev cX2_text : ByteArray := prog_29_method_4_code
def yX2_text : MethodName := ⟨RX2, "text", "(II)Ljava/lang/String;"⟩
def dkwX2_text_1 : List UInt8 := [146, 182, 0, 26, 87, 132, 4, 1, 167, 255, 235, 45, 182, 0, 30, 176]
abbrev dktX2_text_1 : List UInt8 := dkwX2_text_1 ++ []
def dkwX2_text_0 : List UInt8 := [187, 0, 19, 89, 183, 0, 21, 78, 27, 54, 4, 21, 4, 28, 162, 0, 21, 45, 42, 21, 4, 182, 0, 22]
abbrev dktX2_text_0 : List UInt8 := dkwX2_text_0 ++ dktX2_text_1
theorem dksX2_text_0 : cX2_text.data.toList.drop 0 = dktX2_text_0 := by decide +kernel
theorem dksX2_text_1 : cX2_text.data.toList.drop 24 = dktX2_text_1 := dk_seg dksX2_text_0 24 rfl rfl
theorem dX2_text_0 : decode cX2_text 0 = .ok (.new 19, 3) := dk_187 0 19 (dk_at dksX2_text_0 0 rfl rfl)
theorem dX2_text_3 : decode cX2_text 3 = .ok (.dup, 1) := dk_89 (dk_at dksX2_text_0 3 rfl rfl)
theorem dX2_text_4 : decode cX2_text 4 = .ok (.invokespecial 21, 3) := dk_183 0 21 (dk_at dksX2_text_0 4 rfl rfl)
theorem dX2_text_7 : decode cX2_text 7 = .ok (.astore_n 3, 1) := dk_78 (dk_at dksX2_text_0 7 rfl rfl)
theorem dX2_text_8 : decode cX2_text 8 = .ok (.iload_n 1, 1) := dk_27 (dk_at dksX2_text_0 8 rfl rfl)
theorem dX2_text_9 : decode cX2_text 9 = .ok (.istore 4, 2) := dk_54 4 (dk_at dksX2_text_0 9 rfl rfl)
theorem dX2_text_11 : decode cX2_text 11 = .ok (.iload 4, 2) := dk_21 4 (dk_at dksX2_text_0 11 rfl rfl)
theorem dX2_text_13 : decode cX2_text 13 = .ok (.iload_n 2, 1) := dk_28 (dk_at dksX2_text_0 13 rfl rfl)
theorem dX2_text_14 : decode cX2_text 14 = .ok (.if_icmp .ge 21, 3) := dk_162 0 21 (dk_at dksX2_text_0 14 rfl rfl)
theorem dX2_text_17 : decode cX2_text 17 = .ok (.aload_n 3, 1) := dk_45 (dk_at dksX2_text_0 17 rfl rfl)
theorem dX2_text_18 : decode cX2_text 18 = .ok (.aload_n 0, 1) := dk_42 (dk_at dksX2_text_0 18 rfl rfl)
theorem dX2_text_19 : decode cX2_text 19 = .ok (.iload 4, 2) := dk_21 4 (dk_at dksX2_text_0 19 rfl rfl)
theorem dX2_text_21 : decode cX2_text 21 = .ok (.invokevirtual 22, 3) := dk_182 0 22 (dk_at dksX2_text_0 21 rfl rfl)
theorem dX2_text_24 : decode cX2_text 24 = .ok (.i2c, 1) := dk_146 (dk_at dksX2_text_1 0 rfl rfl)
theorem dX2_text_25 : decode cX2_text 25 = .ok (.invokevirtual 26, 3) := dk_182 0 26 (dk_at dksX2_text_1 1 rfl rfl)
theorem dX2_text_28 : decode cX2_text 28 = .ok (.pop, 1) := dk_87 (dk_at dksX2_text_1 4 rfl rfl)
theorem dX2_text_29 : decode cX2_text 29 = .ok (.iinc 4 1, 3) := dk_132 4 1 (dk_at dksX2_text_1 5 rfl rfl)
theorem dX2_text_32 : decode cX2_text 32 = .ok (.goto (-21), 3) := dk_167 255 235 (dk_at dksX2_text_1 8 rfl rfl)
theorem dX2_text_35 : decode cX2_text 35 = .ok (.aload_n 3, 1) := dk_45 (dk_at dksX2_text_1 11 rfl rfl)
theorem dX2_text_36 : decode cX2_text 36 = .ok (.invokevirtual 30, 3) := dk_182 0 30 (dk_at dksX2_text_1 12 rfl rfl)
theorem dX2_text_39 : decode cX2_text 39 = .ok (.areturn, 1) := dk_176 (dk_at dksX2_text_1 15 rfl rfl)
abbrev cX2_put : ByteArray := prog_29_method_2_code
def yX2_put : MethodName := ⟨RX2, "put", "(I)V"⟩
def dkwX2_put_1 : List UInt8 := [180, 0, 15, 4, 96, 181, 0, 15, 132, 2, 248, 167, 255, 226, 177]
abbrev dktX2_put_1 : List UInt8 := dkwX2_put_1 ++ []
def dkwX2_put_0 : List UInt8 := [16, 24, 61, 28, 155, 0, 32, 42, 180, 0, 9, 42, 180, 0, 15, 27, 28, 122, 145, 84, 42, 89]
abbrev dktX2_put_0 : List UInt8 := dkwX2_put_0 ++ dktX2_put_1
theorem dksX2_put_0 : cX2_put.data.toList.drop 0 = dktX2_put_0 := by decide +kernel
theorem dksX2_put_1 : cX2_put.data.toList.drop 22 = dktX2_put_1 := dk_seg dksX2_put_0 22 rfl rfl
theorem dX2_put_0 : decode cX2_put 0 = .ok (.bipush 24, 2) := dk_16 24 (dk_at dksX2_put_0 0 rfl rfl)
theorem dX2_put_2 : decode cX2_put 2 = .ok (.istore_n 2, 1) := dk_61 (dk_at dksX2_put_0 2 rfl rfl)
theorem dX2_put_3 : decode cX2_put 3 = .ok (.iload_n 2, 1) := dk_28 (dk_at dksX2_put_0 3 rfl rfl)
theorem dX2_put_4 : decode cX2_put 4 = .ok (.ifCond .lt 32, 3) := dk_155 0 32 (dk_at dksX2_put_0 4 rfl rfl)
theorem dX2_put_7 : decode cX2_put 7 = .ok (.aload_n 0, 1) := dk_42 (dk_at dksX2_put_0 7 rfl rfl)
theorem dX2_put_8 : decode cX2_put 8 = .ok (.getfield 9, 3) := dk_180 0 9 (dk_at dksX2_put_0 8 rfl rfl)
theorem dX2_put_11 : decode cX2_put 11 = .ok (.aload_n 0, 1) := dk_42 (dk_at dksX2_put_0 11 rfl rfl)
theorem dX2_put_12 : decode cX2_put 12 = .ok (.getfield 15, 3) := dk_180 0 15 (dk_at dksX2_put_0 12 rfl rfl)
theorem dX2_put_15 : decode cX2_put 15 = .ok (.iload_n 1, 1) := dk_27 (dk_at dksX2_put_0 15 rfl rfl)
theorem dX2_put_16 : decode cX2_put 16 = .ok (.iload_n 2, 1) := dk_28 (dk_at dksX2_put_0 16 rfl rfl)
theorem dX2_put_17 : decode cX2_put 17 = .ok (.ishr, 1) := dk_122 (dk_at dksX2_put_0 17 rfl rfl)
theorem dX2_put_18 : decode cX2_put 18 = .ok (.i2b, 1) := dk_145 (dk_at dksX2_put_0 18 rfl rfl)
theorem dX2_put_19 : decode cX2_put 19 = .ok (.bastore, 1) := dk_84 (dk_at dksX2_put_0 19 rfl rfl)
theorem dX2_put_20 : decode cX2_put 20 = .ok (.aload_n 0, 1) := dk_42 (dk_at dksX2_put_0 20 rfl rfl)
theorem dX2_put_21 : decode cX2_put 21 = .ok (.dup, 1) := dk_89 (dk_at dksX2_put_0 21 rfl rfl)
theorem dX2_put_22 : decode cX2_put 22 = .ok (.getfield 15, 3) := dk_180 0 15 (dk_at dksX2_put_1 0 rfl rfl)
theorem dX2_put_25 : decode cX2_put 25 = .ok (.iconst 1, 1) := dk_4 (dk_at dksX2_put_1 3 rfl rfl)
theorem dX2_put_26 : decode cX2_put 26 = .ok (.iadd, 1) := dk_96 (dk_at dksX2_put_1 4 rfl rfl)
theorem dX2_put_27 : decode cX2_put 27 = .ok (.putfield 15, 3) := dk_181 0 15 (dk_at dksX2_put_1 5 rfl rfl)
theorem dX2_put_30 : decode cX2_put 30 = .ok (.iinc 2 (-8), 3) := dk_132 2 248 (dk_at dksX2_put_1 8 rfl rfl)
theorem dX2_put_33 : decode cX2_put 33 = .ok (.goto (-30), 3) := dk_167 255 226 (dk_at dksX2_put_1 11 rfl rfl)
theorem dX2_put_36 : decode cX2_put 36 = .ok (.return_, 1) := dk_177 (dk_at dksX2_put_1 14 rfl rfl)
theorem q101 : (Jvm.Cond.initialized "RingDomino$Tape") ∈ lw_all := lw_g (lw_at lw_m1 2 rfl) rfl
theorem q175 : (Jvm.Cond.instantiable "RingDomino$Tape" (2 : Nat)) ∈ lw_all := lw_g (lw_at lw_m1 76 rfl) rfl
theorem q177 : (Jvm.Cond.instanceMethod ({ cls := "RingDomino$Tape", name := "<init>", desc := "()V" } : Jvm.MethodName)) ∈ lw_all := lw_g (lw_at lw_m1 78 rfl) rfl
theorem q178 : (Jvm.Cond.code ({ cls := "RingDomino$Tape", name := "<init>", desc := "()V" } : Jvm.MethodName) prog_29_method_1_code (1 : Nat) (Option.none : Option Jvm.ClassFile.FieldType)) ∈ lw_all := lw_g (lw_at lw_m1 79 rfl) rfl
theorem q179 : (Jvm.Cond.methodLink "RingDomino$Tape" (3 : Nat) ({ cls := "java/lang/Object", name := "<init>", desc := "()V" } : Jvm.MethodName)) ∈ lw_all := lw_g (lw_at lw_m1 80 rfl) rfl
theorem q180 : (Jvm.Cond.fieldLink "RingDomino$Tape" (9 : Nat) "RingDomino$Tape" "bytes" "[B") ∈ lw_all := lw_g (lw_at lw_m1 81 rfl) rfl
theorem q181 : (Jvm.Cond.fieldLink "RingDomino$Tape" (15 : Nat) "RingDomino$Tape" "size" "I") ∈ lw_all := lw_g (lw_at lw_m1 82 rfl) rfl
theorem q184 : (Jvm.Cond.laysFinal "RingDomino$Tape" "RingDomino$Tape" "bytes" "[B") ∈ lw_all := lw_g (lw_at lw_m1 85 rfl) rfl
theorem q185 : (Jvm.Cond.soleField "RingDomino$Tape" "bytes") ∈ lw_all := lw_g (lw_at lw_m1 86 rfl) rfl
theorem q186 : (Jvm.Cond.lays "RingDomino$Tape" "RingDomino$Tape" "size" "I") ∈ lw_all := lw_g (lw_at lw_m1 87 rfl) rfl
theorem q187 : (Jvm.Cond.soleField "RingDomino$Tape" "size") ∈ lw_all := lw_g (lw_at lw_m1 88 rfl) rfl
theorem q188 : (Jvm.Cond.superclass "RingDomino$Tape" "java/lang/Object") ∈ lw_all := lw_g (lw_at lw_m1 89 rfl) rfl
theorem q308 : (Jvm.Cond.instanceMethod ({ cls := "RingDomino$Tape", name := "at", desc := "(I)I" } : Jvm.MethodName)) ∈ lw_all := lw_g (lw_at lw_m1 209 rfl) rfl
theorem q309 : (Jvm.Cond.selects "RingDomino$Tape" ({ cls := "RingDomino$Tape", name := "at", desc := "(I)I" } : Jvm.MethodName) ({ cls := "RingDomino$Tape", name := "at", desc := "(I)I" } : Jvm.MethodName)) ∈ lw_all := lw_g (lw_at lw_m1 210 rfl) rfl
theorem q310 : (Jvm.Cond.code ({ cls := "RingDomino$Tape", name := "at", desc := "(I)I" } : Jvm.MethodName) prog_29_method_3_code (2 : Nat) (Option.some Jvm.ClassFile.FieldType.int)) ∈ lw_all := lw_g (lw_at lw_m1 211 rfl) rfl
theorem q353 : (Jvm.Cond.instanceMethod ({ cls := "RingDomino$Tape", name := "text", desc := "(II)Ljava/lang/String;" } : Jvm.MethodName)) ∈ lw_all := lw_g (lw_at lw_m2 14 rfl) rfl
theorem q354 : (Jvm.Cond.selects "RingDomino$Tape" ({ cls := "RingDomino$Tape", name := "text", desc := "(II)Ljava/lang/String;" } : Jvm.MethodName) ({ cls := "RingDomino$Tape", name := "text", desc := "(II)Ljava/lang/String;" } : Jvm.MethodName)) ∈ lw_all := lw_g (lw_at lw_m2 15 rfl) rfl
theorem q355 : (Jvm.Cond.code ({ cls := "RingDomino$Tape", name := "text", desc := "(II)Ljava/lang/String;" } : Jvm.MethodName) prog_29_method_4_code (5 : Nat) (Option.some (Jvm.ClassFile.FieldType.object "java/lang/String"))) ∈ lw_all := lw_g (lw_at lw_m2 16 rfl) rfl
theorem q356 : (Jvm.Cond.classLink "RingDomino$Tape" (19 : Nat) "java/lang/StringBuilder") ∈ lw_all := lw_g (lw_at lw_m2 17 rfl) rfl
theorem q358 : (Jvm.Cond.methodLink "RingDomino$Tape" (21 : Nat) ({ cls := "java/lang/StringBuilder", name := "<init>", desc := "()V" } : Jvm.MethodName)) ∈ lw_all := lw_g (lw_at lw_m2 19 rfl) rfl
theorem q387 : (Jvm.Cond.methodLink "RingDomino$Tape" (22 : Nat) ({ cls := "RingDomino$Tape", name := "at", desc := "(I)I" } : Jvm.MethodName)) ∈ lw_all := lw_g (lw_at lw_m2 48 rfl) rfl
theorem q388 : (Jvm.Cond.methodLink "RingDomino$Tape" (26 : Nat) ({ cls := "java/lang/StringBuilder", name := "append", desc := "(C)Ljava/lang/StringBuilder;" } : Jvm.MethodName)) ∈ lw_all := lw_g (lw_at lw_m2 49 rfl) rfl
theorem q483 : (Jvm.Cond.methodLink "RingDomino$Tape" (30 : Nat) ({ cls := "java/lang/StringBuilder", name := "toString", desc := "()Ljava/lang/String;" } : Jvm.MethodName)) ∈ lw_all := lw_g (lw_at lw_m2 144 rfl) rfl
theorem q810 : (Jvm.Cond.selects "RingDomino$Tape" ({ cls := "java/lang/Object", name := "getClass", desc := "()Ljava/lang/Class;" } : Jvm.MethodName) ({ cls := "java/lang/Object", name := "getClass", desc := "()Ljava/lang/Class;" } : Jvm.MethodName)) ∈ lw_all := lw_g (lw_at lw_m3 231 rfl) rfl
theorem q1073 : (Jvm.Cond.selects "RingDomino$Tape" ({ cls := "java/lang/Object", name := "hashCode", desc := "()I" } : Jvm.MethodName) ({ cls := "java/lang/Object", name := "hashCode", desc := "()I" } : Jvm.MethodName)) ∈ lw_all := lw_g (lw_at lw_m5 14 rfl) rfl
theorem q1190 : (Jvm.Cond.selects "RingDomino$Tape" ({ cls := "java/lang/Object", name := "equals", desc := "(Ljava/lang/Object;)Z" } : Jvm.MethodName) ({ cls := "java/lang/Object", name := "equals", desc := "(Ljava/lang/Object;)Z" } : Jvm.MethodName)) ∈ lw_all := lw_g (lw_at lw_m5 131 rfl) rfl
theorem q2517 : (Jvm.Cond.instanceMethod ({ cls := "RingDomino$Tape", name := "put", desc := "(I)V" } : Jvm.MethodName)) ∈ lw_all := lw_g (lw_at lw_m11 18 rfl) rfl
theorem q2518 : (Jvm.Cond.selects "RingDomino$Tape" ({ cls := "RingDomino$Tape", name := "put", desc := "(I)V" } : Jvm.MethodName) ({ cls := "RingDomino$Tape", name := "put", desc := "(I)V" } : Jvm.MethodName)) ∈ lw_all := lw_g (lw_at lw_m11 19 rfl) rfl
theorem q2519 : (Jvm.Cond.code ({ cls := "RingDomino$Tape", name := "put", desc := "(I)V" } : Jvm.MethodName) prog_29_method_2_code (3 : Nat) (Option.none : Option Jvm.ClassFile.FieldType)) ∈ lw_all := lw_g (lw_at lw_m11 20 rfl) rfl
theorem q3403 : (Jvm.Cond.castable "RingDomino$Tape" "java/lang/Object") ∈ lw_tbl := lw_at lw_m14 184 rfl
theorem in_X2 : ∀ w ∈ wsX20, w ∈ lw_all := lw_in wsX20 [184, 186] (by decide +kernel) (by decide +kernel)

/-! RingDomino$Game -/
def RX3 : String := "RingDomino$Game"
def TX3 : u_T := fun k => match k with
  | 0 => ("RingDomino$Game", "columns", "I", false)
  | 1 => ("RingDomino$Game", "rows", "I", false)
  | 2 => ("RingDomino$Game", "tiles", "Ljava/util/ArrayList;", true)
  | 3 => ("RingDomino$Game", "orders", "Ljava/util/ArrayList;", true)
  | 4 => ("RingDomino$Game", "round", "I", false)
  | 5 => ("RingDomino$Game", "done", "I", false)
  | 6 => ("RingDomino$Game", "lies", "[I", true)
  | 7 => ("RingDomino$Game", "cells", "Ljava/util/ArrayList;", true)
  | _ => ("RingDomino$Game", "turns", "Ljava/util/ArrayList;", true)
def tyX3 : Nat → FieldType := fun k => match k with
  | 0 => .int
  | 1 => .int
  | 2 => .object "java/util/ArrayList"
  | 3 => .object "java/util/ArrayList"
  | 4 => .int
  | 5 => .int
  | 6 => .array .int
  | 7 => .object "java/util/ArrayList"
  | _ => .object "java/util/ArrayList"
abbrev wsX30 : List Cond := u_ws RX3 TX3 9
theorem nmX3 : ∀ a, a < 9 → ∀ b, b < 9 → a ≠ b → (TX3 a).2.1 ≠ (TX3 b).2.1 := by decide +kernel
theorem tyX3_ok : ∀ k, k < 9 → parseFieldDescriptor (TX3 k).2.2.1 = some (tyX3 k) := by decide +kernel
abbrev cX3_init : ByteArray := prog_11_method_1_code
def yX3_init : MethodName := ⟨RX3, "<init>", "()V"⟩
def dkwX3_init_2 : List UInt8 := [187, 0, 18, 89, 183, 0, 20, 181, 0, 32, 42, 187, 0, 18, 89, 183, 0, 20, 181, 0, 35, 177]
abbrev dktX3_init_2 : List UInt8 := dkwX3_init_2 ++ []
def dkwX3_init_1 : List UInt8 := [181, 0, 21, 42, 187, 0, 18, 89, 183, 0, 20, 181, 0, 25, 42, 16, 49, 188, 10, 181, 0, 28, 42]
abbrev dktX3_init_1 : List UInt8 := dkwX3_init_1 ++ dktX3_init_2
def dkwX3_init_0 : List UInt8 := [42, 183, 0, 3, 42, 8, 181, 0, 9, 42, 8, 181, 0, 15, 42, 187, 0, 18, 89, 183, 0, 20]
abbrev dktX3_init_0 : List UInt8 := dkwX3_init_0 ++ dktX3_init_1
theorem dksX3_init_0 : cX3_init.data.toList.drop 0 = dktX3_init_0 := by decide +kernel
theorem dksX3_init_1 : cX3_init.data.toList.drop 22 = dktX3_init_1 := dk_seg dksX3_init_0 22 rfl rfl
theorem dksX3_init_2 : cX3_init.data.toList.drop 45 = dktX3_init_2 := dk_seg dksX3_init_1 23 rfl rfl
theorem dX3_init_0 : decode cX3_init 0 = .ok (.aload_n 0, 1) := dk_42 (dk_at dksX3_init_0 0 rfl rfl)
theorem dX3_init_1 : decode cX3_init 1 = .ok (.invokespecial 3, 3) := dk_183 0 3 (dk_at dksX3_init_0 1 rfl rfl)
theorem dX3_init_4 : decode cX3_init 4 = .ok (.aload_n 0, 1) := dk_42 (dk_at dksX3_init_0 4 rfl rfl)
theorem dX3_init_5 : decode cX3_init 5 = .ok (.iconst 5, 1) := dk_8 (dk_at dksX3_init_0 5 rfl rfl)
theorem dX3_init_6 : decode cX3_init 6 = .ok (.putfield 9, 3) := dk_181 0 9 (dk_at dksX3_init_0 6 rfl rfl)
theorem dX3_init_9 : decode cX3_init 9 = .ok (.aload_n 0, 1) := dk_42 (dk_at dksX3_init_0 9 rfl rfl)
theorem dX3_init_10 : decode cX3_init 10 = .ok (.iconst 5, 1) := dk_8 (dk_at dksX3_init_0 10 rfl rfl)
theorem dX3_init_11 : decode cX3_init 11 = .ok (.putfield 15, 3) := dk_181 0 15 (dk_at dksX3_init_0 11 rfl rfl)
theorem dX3_init_14 : decode cX3_init 14 = .ok (.aload_n 0, 1) := dk_42 (dk_at dksX3_init_0 14 rfl rfl)
theorem dX3_init_15 : decode cX3_init 15 = .ok (.new 18, 3) := dk_187 0 18 (dk_at dksX3_init_0 15 rfl rfl)
theorem dX3_init_18 : decode cX3_init 18 = .ok (.dup, 1) := dk_89 (dk_at dksX3_init_0 18 rfl rfl)
theorem dX3_init_19 : decode cX3_init 19 = .ok (.invokespecial 20, 3) := dk_183 0 20 (dk_at dksX3_init_0 19 rfl rfl)
theorem dX3_init_22 : decode cX3_init 22 = .ok (.putfield 21, 3) := dk_181 0 21 (dk_at dksX3_init_1 0 rfl rfl)
theorem dX3_init_25 : decode cX3_init 25 = .ok (.aload_n 0, 1) := dk_42 (dk_at dksX3_init_1 3 rfl rfl)
theorem dX3_init_26 : decode cX3_init 26 = .ok (.new 18, 3) := dk_187 0 18 (dk_at dksX3_init_1 4 rfl rfl)
theorem dX3_init_29 : decode cX3_init 29 = .ok (.dup, 1) := dk_89 (dk_at dksX3_init_1 7 rfl rfl)
theorem dX3_init_30 : decode cX3_init 30 = .ok (.invokespecial 20, 3) := dk_183 0 20 (dk_at dksX3_init_1 8 rfl rfl)
theorem dX3_init_33 : decode cX3_init 33 = .ok (.putfield 25, 3) := dk_181 0 25 (dk_at dksX3_init_1 11 rfl rfl)
theorem dX3_init_36 : decode cX3_init 36 = .ok (.aload_n 0, 1) := dk_42 (dk_at dksX3_init_1 14 rfl rfl)
theorem dX3_init_37 : decode cX3_init 37 = .ok (.bipush 49, 2) := dk_16 49 (dk_at dksX3_init_1 15 rfl rfl)
theorem dX3_init_39 : decode cX3_init 39 = .ok (.newarray .int, 2) := dk_188_10 (dk_at dksX3_init_1 17 rfl rfl)
theorem dX3_init_41 : decode cX3_init 41 = .ok (.putfield 28, 3) := dk_181 0 28 (dk_at dksX3_init_1 19 rfl rfl)
theorem dX3_init_44 : decode cX3_init 44 = .ok (.aload_n 0, 1) := dk_42 (dk_at dksX3_init_1 22 rfl rfl)
theorem dX3_init_45 : decode cX3_init 45 = .ok (.new 18, 3) := dk_187 0 18 (dk_at dksX3_init_2 0 rfl rfl)
theorem dX3_init_48 : decode cX3_init 48 = .ok (.dup, 1) := dk_89 (dk_at dksX3_init_2 3 rfl rfl)
theorem dX3_init_49 : decode cX3_init 49 = .ok (.invokespecial 20, 3) := dk_183 0 20 (dk_at dksX3_init_2 4 rfl rfl)
theorem dX3_init_52 : decode cX3_init 52 = .ok (.putfield 32, 3) := dk_181 0 32 (dk_at dksX3_init_2 7 rfl rfl)
theorem dX3_init_55 : decode cX3_init 55 = .ok (.aload_n 0, 1) := dk_42 (dk_at dksX3_init_2 10 rfl rfl)
theorem dX3_init_56 : decode cX3_init 56 = .ok (.new 18, 3) := dk_187 0 18 (dk_at dksX3_init_2 11 rfl rfl)
theorem dX3_init_59 : decode cX3_init 59 = .ok (.dup, 1) := dk_89 (dk_at dksX3_init_2 14 rfl rfl)
theorem dX3_init_60 : decode cX3_init 60 = .ok (.invokespecial 20, 3) := dk_183 0 20 (dk_at dksX3_init_2 15 rfl rfl)
theorem dX3_init_63 : decode cX3_init 63 = .ok (.putfield 35, 3) := dk_181 0 35 (dk_at dksX3_init_2 18 rfl rfl)
theorem dX3_init_66 : decode cX3_init 66 = .ok (.return_, 1) := dk_177 (dk_at dksX3_init_2 21 rfl rfl)
abbrev cX3_add : ByteArray := prog_11_method_3_code
def yX3_add : MethodName := ⟨RX3, "add", "(LRingDomino$Tile;)V"⟩
def dkwX3_add_1 : List UInt8 := [180, 0, 35, 3, 184, 0, 42, 182, 0, 38, 87, 177]
abbrev dktX3_add_1 : List UInt8 := dkwX3_add_1 ++ []
def dkwX3_add_0 : List UInt8 := [42, 180, 0, 21, 43, 182, 0, 38, 87, 42, 180, 0, 32, 2, 184, 0, 42, 182, 0, 38, 87, 42]
abbrev dktX3_add_0 : List UInt8 := dkwX3_add_0 ++ dktX3_add_1
theorem dksX3_add_0 : cX3_add.data.toList.drop 0 = dktX3_add_0 := by decide +kernel
theorem dksX3_add_1 : cX3_add.data.toList.drop 22 = dktX3_add_1 := dk_seg dksX3_add_0 22 rfl rfl
theorem dX3_add_0 : decode cX3_add 0 = .ok (.aload_n 0, 1) := dk_42 (dk_at dksX3_add_0 0 rfl rfl)
theorem dX3_add_1 : decode cX3_add 1 = .ok (.getfield 21, 3) := dk_180 0 21 (dk_at dksX3_add_0 1 rfl rfl)
theorem dX3_add_4 : decode cX3_add 4 = .ok (.aload_n 1, 1) := dk_43 (dk_at dksX3_add_0 4 rfl rfl)
theorem dX3_add_5 : decode cX3_add 5 = .ok (.invokevirtual 38, 3) := dk_182 0 38 (dk_at dksX3_add_0 5 rfl rfl)
theorem dX3_add_8 : decode cX3_add 8 = .ok (.pop, 1) := dk_87 (dk_at dksX3_add_0 8 rfl rfl)
theorem dX3_add_9 : decode cX3_add 9 = .ok (.aload_n 0, 1) := dk_42 (dk_at dksX3_add_0 9 rfl rfl)
theorem dX3_add_10 : decode cX3_add 10 = .ok (.getfield 32, 3) := dk_180 0 32 (dk_at dksX3_add_0 10 rfl rfl)
theorem dX3_add_13 : decode cX3_add 13 = .ok (.iconst (-1), 1) := dk_2 (dk_at dksX3_add_0 13 rfl rfl)
theorem dX3_add_14 : decode cX3_add 14 = .ok (.invokestatic 42, 3) := dk_184 0 42 (dk_at dksX3_add_0 14 rfl rfl)
theorem dX3_add_17 : decode cX3_add 17 = .ok (.invokevirtual 38, 3) := dk_182 0 38 (dk_at dksX3_add_0 17 rfl rfl)
theorem dX3_add_20 : decode cX3_add 20 = .ok (.pop, 1) := dk_87 (dk_at dksX3_add_0 20 rfl rfl)
theorem dX3_add_21 : decode cX3_add 21 = .ok (.aload_n 0, 1) := dk_42 (dk_at dksX3_add_0 21 rfl rfl)
theorem dX3_add_22 : decode cX3_add 22 = .ok (.getfield 35, 3) := dk_180 0 35 (dk_at dksX3_add_1 0 rfl rfl)
theorem dX3_add_25 : decode cX3_add 25 = .ok (.iconst 0, 1) := dk_3 (dk_at dksX3_add_1 3 rfl rfl)
theorem dX3_add_26 : decode cX3_add 26 = .ok (.invokestatic 42, 3) := dk_184 0 42 (dk_at dksX3_add_1 4 rfl rfl)
theorem dX3_add_29 : decode cX3_add 29 = .ok (.invokevirtual 38, 3) := dk_182 0 38 (dk_at dksX3_add_1 7 rfl rfl)
theorem dX3_add_32 : decode cX3_add 32 = .ok (.pop, 1) := dk_87 (dk_at dksX3_add_1 10 rfl rfl)
theorem dX3_add_33 : decode cX3_add 33 = .ok (.return_, 1) := dk_177 (dk_at dksX3_add_1 11 rfl rfl)
abbrev cX3_placed : ByteArray := prog_11_method_8_code
def yX3_placed : MethodName := ⟨RX3, "placed", "()I"⟩
def dkwX3_placed_1 : List UInt8 := [167, 0, 4, 3, 96, 60, 132, 2, 1, 167, 255, 229, 27, 172]
abbrev dktX3_placed_1 : List UInt8 := dkwX3_placed_1 ++ []
def dkwX3_placed_0 : List UInt8 := [3, 60, 3, 61, 28, 42, 182, 0, 62, 162, 0, 25, 27, 42, 28, 182, 0, 64, 153, 0, 7, 4]
abbrev dktX3_placed_0 : List UInt8 := dkwX3_placed_0 ++ dktX3_placed_1
theorem dksX3_placed_0 : cX3_placed.data.toList.drop 0 = dktX3_placed_0 := by decide +kernel
theorem dksX3_placed_1 : cX3_placed.data.toList.drop 22 = dktX3_placed_1 := dk_seg dksX3_placed_0 22 rfl rfl
theorem dX3_placed_0 : decode cX3_placed 0 = .ok (.iconst 0, 1) := dk_3 (dk_at dksX3_placed_0 0 rfl rfl)
theorem dX3_placed_1 : decode cX3_placed 1 = .ok (.istore_n 1, 1) := dk_60 (dk_at dksX3_placed_0 1 rfl rfl)
theorem dX3_placed_2 : decode cX3_placed 2 = .ok (.iconst 0, 1) := dk_3 (dk_at dksX3_placed_0 2 rfl rfl)
theorem dX3_placed_3 : decode cX3_placed 3 = .ok (.istore_n 2, 1) := dk_61 (dk_at dksX3_placed_0 3 rfl rfl)
theorem dX3_placed_4 : decode cX3_placed 4 = .ok (.iload_n 2, 1) := dk_28 (dk_at dksX3_placed_0 4 rfl rfl)
theorem dX3_placed_5 : decode cX3_placed 5 = .ok (.aload_n 0, 1) := dk_42 (dk_at dksX3_placed_0 5 rfl rfl)
theorem dX3_placed_6 : decode cX3_placed 6 = .ok (.invokevirtual 62, 3) := dk_182 0 62 (dk_at dksX3_placed_0 6 rfl rfl)
theorem dX3_placed_9 : decode cX3_placed 9 = .ok (.if_icmp .ge 25, 3) := dk_162 0 25 (dk_at dksX3_placed_0 9 rfl rfl)
theorem dX3_placed_12 : decode cX3_placed 12 = .ok (.iload_n 1, 1) := dk_27 (dk_at dksX3_placed_0 12 rfl rfl)
theorem dX3_placed_13 : decode cX3_placed 13 = .ok (.aload_n 0, 1) := dk_42 (dk_at dksX3_placed_0 13 rfl rfl)
theorem dX3_placed_14 : decode cX3_placed 14 = .ok (.iload_n 2, 1) := dk_28 (dk_at dksX3_placed_0 14 rfl rfl)
theorem dX3_placed_15 : decode cX3_placed 15 = .ok (.invokevirtual 64, 3) := dk_182 0 64 (dk_at dksX3_placed_0 15 rfl rfl)
theorem dX3_placed_18 : decode cX3_placed 18 = .ok (.ifCond .eq 7, 3) := dk_153 0 7 (dk_at dksX3_placed_0 18 rfl rfl)
theorem dX3_placed_21 : decode cX3_placed 21 = .ok (.iconst 1, 1) := dk_4 (dk_at dksX3_placed_0 21 rfl rfl)
theorem dX3_placed_22 : decode cX3_placed 22 = .ok (.goto 4, 3) := dk_167 0 4 (dk_at dksX3_placed_1 0 rfl rfl)
theorem dX3_placed_25 : decode cX3_placed 25 = .ok (.iconst 0, 1) := dk_3 (dk_at dksX3_placed_1 3 rfl rfl)
theorem dX3_placed_26 : decode cX3_placed 26 = .ok (.iadd, 1) := dk_96 (dk_at dksX3_placed_1 4 rfl rfl)
theorem dX3_placed_27 : decode cX3_placed 27 = .ok (.istore_n 1, 1) := dk_60 (dk_at dksX3_placed_1 5 rfl rfl)
theorem dX3_placed_28 : decode cX3_placed 28 = .ok (.iinc 2 1, 3) := dk_132 2 1 (dk_at dksX3_placed_1 6 rfl rfl)
theorem dX3_placed_31 : decode cX3_placed 31 = .ok (.goto (-27), 3) := dk_167 255 229 (dk_at dksX3_placed_1 9 rfl rfl)
theorem dX3_placed_34 : decode cX3_placed 34 = .ok (.iload_n 1, 1) := dk_27 (dk_at dksX3_placed_1 12 rfl rfl)
theorem dX3_placed_35 : decode cX3_placed 35 = .ok (.ireturn, 1) := dk_172 (dk_at dksX3_placed_1 13 rfl rfl)
abbrev cX3_cells : ByteArray := prog_11_method_2_code
def yX3_cells : MethodName := ⟨RX3, "cells", "()I"⟩
def dkwX3_cells_0 : List UInt8 := [42, 180, 0, 9, 42, 180, 0, 15, 104, 172]
abbrev dktX3_cells_0 : List UInt8 := dkwX3_cells_0 ++ []
theorem dksX3_cells_0 : cX3_cells.data.toList.drop 0 = dktX3_cells_0 := by decide +kernel
theorem dX3_cells_0 : decode cX3_cells 0 = .ok (.aload_n 0, 1) := dk_42 (dk_at dksX3_cells_0 0 rfl rfl)
theorem dX3_cells_1 : decode cX3_cells 1 = .ok (.getfield 9, 3) := dk_180 0 9 (dk_at dksX3_cells_0 1 rfl rfl)
theorem dX3_cells_4 : decode cX3_cells 4 = .ok (.aload_n 0, 1) := dk_42 (dk_at dksX3_cells_0 4 rfl rfl)
theorem dX3_cells_5 : decode cX3_cells 5 = .ok (.getfield 15, 3) := dk_180 0 15 (dk_at dksX3_cells_0 5 rfl rfl)
theorem dX3_cells_8 : decode cX3_cells 8 = .ok (.imul, 1) := dk_104 (dk_at dksX3_cells_0 8 rfl rfl)
theorem dX3_cells_9 : decode cX3_cells 9 = .ok (.ireturn, 1) := dk_172 (dk_at dksX3_cells_0 9 rfl rfl)
abbrev cX3_hasTile : ByteArray := prog_11_method_5_code
def yX3_hasTile : MethodName := ⟨RX3, "hasTile", "(I)Z"⟩
def dkwX3_hasTile_0 : List UInt8 := [27, 2, 159, 0, 16, 42, 180, 0, 28, 27, 46, 158, 0, 7, 4, 167, 0, 4, 3, 172]
abbrev dktX3_hasTile_0 : List UInt8 := dkwX3_hasTile_0 ++ []
theorem dksX3_hasTile_0 : cX3_hasTile.data.toList.drop 0 = dktX3_hasTile_0 := by decide +kernel
theorem dX3_hasTile_0 : decode cX3_hasTile 0 = .ok (.iload_n 1, 1) := dk_27 (dk_at dksX3_hasTile_0 0 rfl rfl)
theorem dX3_hasTile_1 : decode cX3_hasTile 1 = .ok (.iconst (-1), 1) := dk_2 (dk_at dksX3_hasTile_0 1 rfl rfl)
theorem dX3_hasTile_2 : decode cX3_hasTile 2 = .ok (.if_icmp .eq 16, 3) := dk_159 0 16 (dk_at dksX3_hasTile_0 2 rfl rfl)
theorem dX3_hasTile_5 : decode cX3_hasTile 5 = .ok (.aload_n 0, 1) := dk_42 (dk_at dksX3_hasTile_0 5 rfl rfl)
theorem dX3_hasTile_6 : decode cX3_hasTile 6 = .ok (.getfield 28, 3) := dk_180 0 28 (dk_at dksX3_hasTile_0 6 rfl rfl)
theorem dX3_hasTile_9 : decode cX3_hasTile 9 = .ok (.iload_n 1, 1) := dk_27 (dk_at dksX3_hasTile_0 9 rfl rfl)
theorem dX3_hasTile_10 : decode cX3_hasTile 10 = .ok (.iaload, 1) := dk_46 (dk_at dksX3_hasTile_0 10 rfl rfl)
theorem dX3_hasTile_11 : decode cX3_hasTile 11 = .ok (.ifCond .le 7, 3) := dk_158 0 7 (dk_at dksX3_hasTile_0 11 rfl rfl)
theorem dX3_hasTile_14 : decode cX3_hasTile 14 = .ok (.iconst 1, 1) := dk_4 (dk_at dksX3_hasTile_0 14 rfl rfl)
theorem dX3_hasTile_15 : decode cX3_hasTile 15 = .ok (.goto 4, 3) := dk_167 0 4 (dk_at dksX3_hasTile_0 15 rfl rfl)
theorem dX3_hasTile_18 : decode cX3_hasTile 18 = .ok (.iconst 0, 1) := dk_3 (dk_at dksX3_hasTile_0 18 rfl rfl)
theorem dX3_hasTile_19 : decode cX3_hasTile 19 = .ok (.ireturn, 1) := dk_172 (dk_at dksX3_hasTile_0 19 rfl rfl)
abbrev cX3_matches : ByteArray := prog_11_method_20_code
def yX3_matches : MethodName := ⟨RX3, "matches", "()I"⟩
def dkwX3_matches_1 : List UInt8 := [167, 255, 237, 27, 5, 108, 172]
abbrev dktX3_matches_1 : List UInt8 := dkwX3_matches_1 ++ []
def dkwX3_matches_0 : List UInt8 := [3, 60, 3, 61, 28, 42, 182, 0, 62, 162, 0, 17, 27, 42, 28, 182, 0, 127, 96, 60, 132, 2, 1]
abbrev dktX3_matches_0 : List UInt8 := dkwX3_matches_0 ++ dktX3_matches_1
theorem dksX3_matches_0 : cX3_matches.data.toList.drop 0 = dktX3_matches_0 := by decide +kernel
theorem dksX3_matches_1 : cX3_matches.data.toList.drop 23 = dktX3_matches_1 := dk_seg dksX3_matches_0 23 rfl rfl
theorem dX3_matches_0 : decode cX3_matches 0 = .ok (.iconst 0, 1) := dk_3 (dk_at dksX3_matches_0 0 rfl rfl)
theorem dX3_matches_1 : decode cX3_matches 1 = .ok (.istore_n 1, 1) := dk_60 (dk_at dksX3_matches_0 1 rfl rfl)
theorem dX3_matches_2 : decode cX3_matches 2 = .ok (.iconst 0, 1) := dk_3 (dk_at dksX3_matches_0 2 rfl rfl)
theorem dX3_matches_3 : decode cX3_matches 3 = .ok (.istore_n 2, 1) := dk_61 (dk_at dksX3_matches_0 3 rfl rfl)
theorem dX3_matches_4 : decode cX3_matches 4 = .ok (.iload_n 2, 1) := dk_28 (dk_at dksX3_matches_0 4 rfl rfl)
theorem dX3_matches_5 : decode cX3_matches 5 = .ok (.aload_n 0, 1) := dk_42 (dk_at dksX3_matches_0 5 rfl rfl)
theorem dX3_matches_6 : decode cX3_matches 6 = .ok (.invokevirtual 62, 3) := dk_182 0 62 (dk_at dksX3_matches_0 6 rfl rfl)
theorem dX3_matches_9 : decode cX3_matches 9 = .ok (.if_icmp .ge 17, 3) := dk_162 0 17 (dk_at dksX3_matches_0 9 rfl rfl)
theorem dX3_matches_12 : decode cX3_matches 12 = .ok (.iload_n 1, 1) := dk_27 (dk_at dksX3_matches_0 12 rfl rfl)
theorem dX3_matches_13 : decode cX3_matches 13 = .ok (.aload_n 0, 1) := dk_42 (dk_at dksX3_matches_0 13 rfl rfl)
theorem dX3_matches_14 : decode cX3_matches 14 = .ok (.iload_n 2, 1) := dk_28 (dk_at dksX3_matches_0 14 rfl rfl)
theorem dX3_matches_15 : decode cX3_matches 15 = .ok (.invokevirtual 127, 3) := dk_182 0 127 (dk_at dksX3_matches_0 15 rfl rfl)
theorem dX3_matches_18 : decode cX3_matches 18 = .ok (.iadd, 1) := dk_96 (dk_at dksX3_matches_0 18 rfl rfl)
theorem dX3_matches_19 : decode cX3_matches 19 = .ok (.istore_n 1, 1) := dk_60 (dk_at dksX3_matches_0 19 rfl rfl)
theorem dX3_matches_20 : decode cX3_matches 20 = .ok (.iinc 2 1, 3) := dk_132 2 1 (dk_at dksX3_matches_0 20 rfl rfl)
theorem dX3_matches_23 : decode cX3_matches 23 = .ok (.goto (-19), 3) := dk_167 255 237 (dk_at dksX3_matches_1 0 rfl rfl)
theorem dX3_matches_26 : decode cX3_matches 26 = .ok (.iload_n 1, 1) := dk_27 (dk_at dksX3_matches_1 3 rfl rfl)
theorem dX3_matches_27 : decode cX3_matches 27 = .ok (.iconst 2, 1) := dk_5 (dk_at dksX3_matches_1 4 rfl rfl)
theorem dX3_matches_28 : decode cX3_matches 28 = .ok (.idiv, 1) := dk_108 (dk_at dksX3_matches_1 5 rfl rfl)
theorem dX3_matches_29 : decode cX3_matches 29 = .ok (.ireturn, 1) := dk_172 (dk_at dksX3_matches_1 6 rfl rfl)
abbrev cX3_matchesOf : ByteArray := prog_11_method_19_code
def yX3_matchesOf : MethodName := ⟨RX3, "matchesOf", "(I)I"⟩
def dkwX3_matchesOf_0 : List UInt8 := [42, 27, 182, 0, 64, 153, 0, 11, 42, 27, 182, 0, 77, 167, 0, 4, 3, 172]
abbrev dktX3_matchesOf_0 : List UInt8 := dkwX3_matchesOf_0 ++ []
theorem dksX3_matchesOf_0 : cX3_matchesOf.data.toList.drop 0 = dktX3_matchesOf_0 := by decide +kernel
theorem dX3_matchesOf_0 : decode cX3_matchesOf 0 = .ok (.aload_n 0, 1) := dk_42 (dk_at dksX3_matchesOf_0 0 rfl rfl)
theorem dX3_matchesOf_1 : decode cX3_matchesOf 1 = .ok (.iload_n 1, 1) := dk_27 (dk_at dksX3_matchesOf_0 1 rfl rfl)
theorem dX3_matchesOf_2 : decode cX3_matchesOf 2 = .ok (.invokevirtual 64, 3) := dk_182 0 64 (dk_at dksX3_matchesOf_0 2 rfl rfl)
theorem dX3_matchesOf_5 : decode cX3_matchesOf 5 = .ok (.ifCond .eq 11, 3) := dk_153 0 11 (dk_at dksX3_matchesOf_0 5 rfl rfl)
theorem dX3_matchesOf_8 : decode cX3_matchesOf 8 = .ok (.aload_n 0, 1) := dk_42 (dk_at dksX3_matchesOf_0 8 rfl rfl)
theorem dX3_matchesOf_9 : decode cX3_matchesOf 9 = .ok (.iload_n 1, 1) := dk_27 (dk_at dksX3_matchesOf_0 9 rfl rfl)
theorem dX3_matchesOf_10 : decode cX3_matchesOf 10 = .ok (.invokevirtual 77, 3) := dk_182 0 77 (dk_at dksX3_matchesOf_0 10 rfl rfl)
theorem dX3_matchesOf_13 : decode cX3_matchesOf 13 = .ok (.goto 4, 3) := dk_167 0 4 (dk_at dksX3_matchesOf_0 13 rfl rfl)
theorem dX3_matchesOf_16 : decode cX3_matchesOf 16 = .ok (.iconst 0, 1) := dk_3 (dk_at dksX3_matchesOf_0 16 rfl rfl)
theorem dX3_matchesOf_17 : decode cX3_matchesOf 17 = .ok (.ireturn, 1) := dk_172 (dk_at dksX3_matchesOf_0 17 rfl rfl)
abbrev cX3_around : ByteArray := prog_11_method_9_code
def yX3_around : MethodName := ⟨RX3, "around", "(I)I"⟩
def dkwX3_around_1 : List UInt8 := [4, 167, 0, 4, 3, 96, 61, 132, 3, 1, 167, 255, 226, 28, 172]
abbrev dktX3_around_1 : List UInt8 := dkwX3_around_1 ++ []
def dkwX3_around_0 : List UInt8 := [3, 61, 3, 62, 29, 16, 6, 162, 0, 30, 28, 42, 42, 27, 29, 182, 0, 68, 182, 0, 64, 153, 0, 7]
abbrev dktX3_around_0 : List UInt8 := dkwX3_around_0 ++ dktX3_around_1
theorem dksX3_around_0 : cX3_around.data.toList.drop 0 = dktX3_around_0 := by decide +kernel
theorem dksX3_around_1 : cX3_around.data.toList.drop 24 = dktX3_around_1 := dk_seg dksX3_around_0 24 rfl rfl
theorem dX3_around_0 : decode cX3_around 0 = .ok (.iconst 0, 1) := dk_3 (dk_at dksX3_around_0 0 rfl rfl)
theorem dX3_around_1 : decode cX3_around 1 = .ok (.istore_n 2, 1) := dk_61 (dk_at dksX3_around_0 1 rfl rfl)
theorem dX3_around_2 : decode cX3_around 2 = .ok (.iconst 0, 1) := dk_3 (dk_at dksX3_around_0 2 rfl rfl)
theorem dX3_around_3 : decode cX3_around 3 = .ok (.istore_n 3, 1) := dk_62 (dk_at dksX3_around_0 3 rfl rfl)
theorem dX3_around_4 : decode cX3_around 4 = .ok (.iload_n 3, 1) := dk_29 (dk_at dksX3_around_0 4 rfl rfl)
theorem dX3_around_5 : decode cX3_around 5 = .ok (.bipush 6, 2) := dk_16 6 (dk_at dksX3_around_0 5 rfl rfl)
theorem dX3_around_7 : decode cX3_around 7 = .ok (.if_icmp .ge 30, 3) := dk_162 0 30 (dk_at dksX3_around_0 7 rfl rfl)
theorem dX3_around_10 : decode cX3_around 10 = .ok (.iload_n 2, 1) := dk_28 (dk_at dksX3_around_0 10 rfl rfl)
theorem dX3_around_11 : decode cX3_around 11 = .ok (.aload_n 0, 1) := dk_42 (dk_at dksX3_around_0 11 rfl rfl)
theorem dX3_around_12 : decode cX3_around 12 = .ok (.aload_n 0, 1) := dk_42 (dk_at dksX3_around_0 12 rfl rfl)
theorem dX3_around_13 : decode cX3_around 13 = .ok (.iload_n 1, 1) := dk_27 (dk_at dksX3_around_0 13 rfl rfl)
theorem dX3_around_14 : decode cX3_around 14 = .ok (.iload_n 3, 1) := dk_29 (dk_at dksX3_around_0 14 rfl rfl)
theorem dX3_around_15 : decode cX3_around 15 = .ok (.invokevirtual 68, 3) := dk_182 0 68 (dk_at dksX3_around_0 15 rfl rfl)
theorem dX3_around_18 : decode cX3_around 18 = .ok (.invokevirtual 64, 3) := dk_182 0 64 (dk_at dksX3_around_0 18 rfl rfl)
theorem dX3_around_21 : decode cX3_around 21 = .ok (.ifCond .eq 7, 3) := dk_153 0 7 (dk_at dksX3_around_0 21 rfl rfl)
theorem dX3_around_24 : decode cX3_around 24 = .ok (.iconst 1, 1) := dk_4 (dk_at dksX3_around_1 0 rfl rfl)
theorem dX3_around_25 : decode cX3_around 25 = .ok (.goto 4, 3) := dk_167 0 4 (dk_at dksX3_around_1 1 rfl rfl)
theorem dX3_around_28 : decode cX3_around 28 = .ok (.iconst 0, 1) := dk_3 (dk_at dksX3_around_1 4 rfl rfl)
theorem dX3_around_29 : decode cX3_around 29 = .ok (.iadd, 1) := dk_96 (dk_at dksX3_around_1 5 rfl rfl)
theorem dX3_around_30 : decode cX3_around 30 = .ok (.istore_n 2, 1) := dk_61 (dk_at dksX3_around_1 6 rfl rfl)
theorem dX3_around_31 : decode cX3_around 31 = .ok (.iinc 3 1, 3) := dk_132 3 1 (dk_at dksX3_around_1 7 rfl rfl)
theorem dX3_around_34 : decode cX3_around 34 = .ok (.goto (-30), 3) := dk_167 255 226 (dk_at dksX3_around_1 10 rfl rfl)
theorem dX3_around_37 : decode cX3_around 37 = .ok (.iload_n 2, 1) := dk_28 (dk_at dksX3_around_1 13 rfl rfl)
theorem dX3_around_38 : decode cX3_around 38 = .ok (.ireturn, 1) := dk_172 (dk_at dksX3_around_1 14 rfl rfl)
abbrev cX3_beside : ByteArray := prog_11_method_4_code
def yX3_beside : MethodName := ⟨RX3, "beside", "(II)I"⟩
def dkwX3_beside_4 : List UInt8 := [180, 0, 15, 161, 0, 7, 2, 167, 0, 12, 42, 180, 0, 9, 21, 4, 104, 29, 96, 172]
abbrev dktX3_beside_4 : List UInt8 := dkwX3_beside_4 ++ []
def dkwX3_beside_3 : List UInt8 := [54, 4, 29, 155, 0, 25, 29, 42, 180, 0, 9, 162, 0, 17, 21, 4, 155, 0, 12, 21, 4, 42]
abbrev dktX3_beside_3 : List UInt8 := dkwX3_beside_3 ++ dktX3_beside_4
def dkwX3_beside_2 : List UInt8 := [5, 160, 0, 7, 4, 167, 0, 18, 28, 7, 159, 0, 8, 28, 8, 160, 0, 7, 2, 167, 0, 4, 3, 96]
abbrev dktX3_beside_2 : List UInt8 := dkwX3_beside_2 ++ dktX3_beside_3
def dkwX3_beside_1 : List UInt8 := [28, 6, 160, 0, 7, 2, 167, 0, 4, 3, 96, 62, 27, 42, 180, 0, 9, 108, 28, 4, 159, 0, 8, 28]
abbrev dktX3_beside_1 : List UInt8 := dkwX3_beside_1 ++ dktX3_beside_2
def dkwX3_beside_0 : List UInt8 := [27, 42, 180, 0, 9, 112, 28, 153, 0, 8, 28, 8, 160, 0, 7, 4, 167, 0, 18, 28, 5, 159, 0, 8]
abbrev dktX3_beside_0 : List UInt8 := dkwX3_beside_0 ++ dktX3_beside_1
theorem dksX3_beside_0 : cX3_beside.data.toList.drop 0 = dktX3_beside_0 := by decide +kernel
theorem dksX3_beside_1 : cX3_beside.data.toList.drop 24 = dktX3_beside_1 := dk_seg dksX3_beside_0 24 rfl rfl
theorem dksX3_beside_2 : cX3_beside.data.toList.drop 48 = dktX3_beside_2 := dk_seg dksX3_beside_1 24 rfl rfl
theorem dksX3_beside_3 : cX3_beside.data.toList.drop 72 = dktX3_beside_3 := dk_seg dksX3_beside_2 24 rfl rfl
theorem dksX3_beside_4 : cX3_beside.data.toList.drop 94 = dktX3_beside_4 := dk_seg dksX3_beside_3 22 rfl rfl
theorem dX3_beside_0 : decode cX3_beside 0 = .ok (.iload_n 1, 1) := dk_27 (dk_at dksX3_beside_0 0 rfl rfl)
theorem dX3_beside_1 : decode cX3_beside 1 = .ok (.aload_n 0, 1) := dk_42 (dk_at dksX3_beside_0 1 rfl rfl)
theorem dX3_beside_2 : decode cX3_beside 2 = .ok (.getfield 9, 3) := dk_180 0 9 (dk_at dksX3_beside_0 2 rfl rfl)
theorem dX3_beside_5 : decode cX3_beside 5 = .ok (.irem, 1) := dk_112 (dk_at dksX3_beside_0 5 rfl rfl)
theorem dX3_beside_6 : decode cX3_beside 6 = .ok (.iload_n 2, 1) := dk_28 (dk_at dksX3_beside_0 6 rfl rfl)
theorem dX3_beside_7 : decode cX3_beside 7 = .ok (.ifCond .eq 8, 3) := dk_153 0 8 (dk_at dksX3_beside_0 7 rfl rfl)
theorem dX3_beside_10 : decode cX3_beside 10 = .ok (.iload_n 2, 1) := dk_28 (dk_at dksX3_beside_0 10 rfl rfl)
theorem dX3_beside_11 : decode cX3_beside 11 = .ok (.iconst 5, 1) := dk_8 (dk_at dksX3_beside_0 11 rfl rfl)
theorem dX3_beside_12 : decode cX3_beside 12 = .ok (.if_icmp .ne 7, 3) := dk_160 0 7 (dk_at dksX3_beside_0 12 rfl rfl)
theorem dX3_beside_15 : decode cX3_beside 15 = .ok (.iconst 1, 1) := dk_4 (dk_at dksX3_beside_0 15 rfl rfl)
theorem dX3_beside_16 : decode cX3_beside 16 = .ok (.goto 18, 3) := dk_167 0 18 (dk_at dksX3_beside_0 16 rfl rfl)
theorem dX3_beside_19 : decode cX3_beside 19 = .ok (.iload_n 2, 1) := dk_28 (dk_at dksX3_beside_0 19 rfl rfl)
theorem dX3_beside_20 : decode cX3_beside 20 = .ok (.iconst 2, 1) := dk_5 (dk_at dksX3_beside_0 20 rfl rfl)
theorem dX3_beside_21 : decode cX3_beside 21 = .ok (.if_icmp .eq 8, 3) := dk_159 0 8 (dk_at dksX3_beside_0 21 rfl rfl)
theorem dX3_beside_24 : decode cX3_beside 24 = .ok (.iload_n 2, 1) := dk_28 (dk_at dksX3_beside_1 0 rfl rfl)
theorem dX3_beside_25 : decode cX3_beside 25 = .ok (.iconst 3, 1) := dk_6 (dk_at dksX3_beside_1 1 rfl rfl)
theorem dX3_beside_26 : decode cX3_beside 26 = .ok (.if_icmp .ne 7, 3) := dk_160 0 7 (dk_at dksX3_beside_1 2 rfl rfl)
theorem dX3_beside_29 : decode cX3_beside 29 = .ok (.iconst (-1), 1) := dk_2 (dk_at dksX3_beside_1 5 rfl rfl)
theorem dX3_beside_30 : decode cX3_beside 30 = .ok (.goto 4, 3) := dk_167 0 4 (dk_at dksX3_beside_1 6 rfl rfl)
theorem dX3_beside_33 : decode cX3_beside 33 = .ok (.iconst 0, 1) := dk_3 (dk_at dksX3_beside_1 9 rfl rfl)
theorem dX3_beside_34 : decode cX3_beside 34 = .ok (.iadd, 1) := dk_96 (dk_at dksX3_beside_1 10 rfl rfl)
theorem dX3_beside_35 : decode cX3_beside 35 = .ok (.istore_n 3, 1) := dk_62 (dk_at dksX3_beside_1 11 rfl rfl)
theorem dX3_beside_36 : decode cX3_beside 36 = .ok (.iload_n 1, 1) := dk_27 (dk_at dksX3_beside_1 12 rfl rfl)
theorem dX3_beside_37 : decode cX3_beside 37 = .ok (.aload_n 0, 1) := dk_42 (dk_at dksX3_beside_1 13 rfl rfl)
theorem dX3_beside_38 : decode cX3_beside 38 = .ok (.getfield 9, 3) := dk_180 0 9 (dk_at dksX3_beside_1 14 rfl rfl)
theorem dX3_beside_41 : decode cX3_beside 41 = .ok (.idiv, 1) := dk_108 (dk_at dksX3_beside_1 17 rfl rfl)
theorem dX3_beside_42 : decode cX3_beside 42 = .ok (.iload_n 2, 1) := dk_28 (dk_at dksX3_beside_1 18 rfl rfl)
theorem dX3_beside_43 : decode cX3_beside 43 = .ok (.iconst 1, 1) := dk_4 (dk_at dksX3_beside_1 19 rfl rfl)
theorem dX3_beside_44 : decode cX3_beside 44 = .ok (.if_icmp .eq 8, 3) := dk_159 0 8 (dk_at dksX3_beside_1 20 rfl rfl)
theorem dX3_beside_47 : decode cX3_beside 47 = .ok (.iload_n 2, 1) := dk_28 (dk_at dksX3_beside_1 23 rfl rfl)
theorem dX3_beside_48 : decode cX3_beside 48 = .ok (.iconst 2, 1) := dk_5 (dk_at dksX3_beside_2 0 rfl rfl)
theorem dX3_beside_49 : decode cX3_beside 49 = .ok (.if_icmp .ne 7, 3) := dk_160 0 7 (dk_at dksX3_beside_2 1 rfl rfl)
theorem dX3_beside_52 : decode cX3_beside 52 = .ok (.iconst 1, 1) := dk_4 (dk_at dksX3_beside_2 4 rfl rfl)
theorem dX3_beside_53 : decode cX3_beside 53 = .ok (.goto 18, 3) := dk_167 0 18 (dk_at dksX3_beside_2 5 rfl rfl)
theorem dX3_beside_56 : decode cX3_beside 56 = .ok (.iload_n 2, 1) := dk_28 (dk_at dksX3_beside_2 8 rfl rfl)
theorem dX3_beside_57 : decode cX3_beside 57 = .ok (.iconst 4, 1) := dk_7 (dk_at dksX3_beside_2 9 rfl rfl)
theorem dX3_beside_58 : decode cX3_beside 58 = .ok (.if_icmp .eq 8, 3) := dk_159 0 8 (dk_at dksX3_beside_2 10 rfl rfl)
theorem dX3_beside_61 : decode cX3_beside 61 = .ok (.iload_n 2, 1) := dk_28 (dk_at dksX3_beside_2 13 rfl rfl)
theorem dX3_beside_62 : decode cX3_beside 62 = .ok (.iconst 5, 1) := dk_8 (dk_at dksX3_beside_2 14 rfl rfl)
theorem dX3_beside_63 : decode cX3_beside 63 = .ok (.if_icmp .ne 7, 3) := dk_160 0 7 (dk_at dksX3_beside_2 15 rfl rfl)
theorem dX3_beside_66 : decode cX3_beside 66 = .ok (.iconst (-1), 1) := dk_2 (dk_at dksX3_beside_2 18 rfl rfl)
theorem dX3_beside_67 : decode cX3_beside 67 = .ok (.goto 4, 3) := dk_167 0 4 (dk_at dksX3_beside_2 19 rfl rfl)
theorem dX3_beside_70 : decode cX3_beside 70 = .ok (.iconst 0, 1) := dk_3 (dk_at dksX3_beside_2 22 rfl rfl)
theorem dX3_beside_71 : decode cX3_beside 71 = .ok (.iadd, 1) := dk_96 (dk_at dksX3_beside_2 23 rfl rfl)
theorem dX3_beside_72 : decode cX3_beside 72 = .ok (.istore 4, 2) := dk_54 4 (dk_at dksX3_beside_3 0 rfl rfl)
theorem dX3_beside_74 : decode cX3_beside 74 = .ok (.iload_n 3, 1) := dk_29 (dk_at dksX3_beside_3 2 rfl rfl)
theorem dX3_beside_75 : decode cX3_beside 75 = .ok (.ifCond .lt 25, 3) := dk_155 0 25 (dk_at dksX3_beside_3 3 rfl rfl)
theorem dX3_beside_78 : decode cX3_beside 78 = .ok (.iload_n 3, 1) := dk_29 (dk_at dksX3_beside_3 6 rfl rfl)
theorem dX3_beside_79 : decode cX3_beside 79 = .ok (.aload_n 0, 1) := dk_42 (dk_at dksX3_beside_3 7 rfl rfl)
theorem dX3_beside_80 : decode cX3_beside 80 = .ok (.getfield 9, 3) := dk_180 0 9 (dk_at dksX3_beside_3 8 rfl rfl)
theorem dX3_beside_83 : decode cX3_beside 83 = .ok (.if_icmp .ge 17, 3) := dk_162 0 17 (dk_at dksX3_beside_3 11 rfl rfl)
theorem dX3_beside_86 : decode cX3_beside 86 = .ok (.iload 4, 2) := dk_21 4 (dk_at dksX3_beside_3 14 rfl rfl)
theorem dX3_beside_88 : decode cX3_beside 88 = .ok (.ifCond .lt 12, 3) := dk_155 0 12 (dk_at dksX3_beside_3 16 rfl rfl)
theorem dX3_beside_91 : decode cX3_beside 91 = .ok (.iload 4, 2) := dk_21 4 (dk_at dksX3_beside_3 19 rfl rfl)
theorem dX3_beside_93 : decode cX3_beside 93 = .ok (.aload_n 0, 1) := dk_42 (dk_at dksX3_beside_3 21 rfl rfl)
theorem dX3_beside_94 : decode cX3_beside 94 = .ok (.getfield 15, 3) := dk_180 0 15 (dk_at dksX3_beside_4 0 rfl rfl)
theorem dX3_beside_97 : decode cX3_beside 97 = .ok (.if_icmp .lt 7, 3) := dk_161 0 7 (dk_at dksX3_beside_4 3 rfl rfl)
theorem dX3_beside_100 : decode cX3_beside 100 = .ok (.iconst (-1), 1) := dk_2 (dk_at dksX3_beside_4 6 rfl rfl)
theorem dX3_beside_101 : decode cX3_beside 101 = .ok (.goto 12, 3) := dk_167 0 12 (dk_at dksX3_beside_4 7 rfl rfl)
theorem dX3_beside_104 : decode cX3_beside 104 = .ok (.aload_n 0, 1) := dk_42 (dk_at dksX3_beside_4 10 rfl rfl)
theorem dX3_beside_105 : decode cX3_beside 105 = .ok (.getfield 9, 3) := dk_180 0 9 (dk_at dksX3_beside_4 11 rfl rfl)
theorem dX3_beside_108 : decode cX3_beside 108 = .ok (.iload 4, 2) := dk_21 4 (dk_at dksX3_beside_4 14 rfl rfl)
theorem dX3_beside_110 : decode cX3_beside 110 = .ok (.imul, 1) := dk_104 (dk_at dksX3_beside_4 16 rfl rfl)
theorem dX3_beside_111 : decode cX3_beside 111 = .ok (.iload_n 3, 1) := dk_29 (dk_at dksX3_beside_4 17 rfl rfl)
theorem dX3_beside_112 : decode cX3_beside 112 = .ok (.iadd, 1) := dk_96 (dk_at dksX3_beside_4 18 rfl rfl)
theorem dX3_beside_113 : decode cX3_beside 113 = .ok (.ireturn, 1) := dk_172 (dk_at dksX3_beside_4 19 rfl rfl)
abbrev cX3_points : ByteArray := prog_11_method_24_code
def yX3_points : MethodName := ⟨RX3, "points", "()I"⟩
def dkwX3_points_0 : List UInt8 := [42, 182, 0, 133, 16, 10, 42, 182, 0, 136, 104, 96, 172]
abbrev dktX3_points_0 : List UInt8 := dkwX3_points_0 ++ []
theorem dksX3_points_0 : cX3_points.data.toList.drop 0 = dktX3_points_0 := by decide +kernel
theorem dX3_points_0 : decode cX3_points 0 = .ok (.aload_n 0, 1) := dk_42 (dk_at dksX3_points_0 0 rfl rfl)
theorem dX3_points_1 : decode cX3_points 1 = .ok (.invokevirtual 133, 3) := dk_182 0 133 (dk_at dksX3_points_0 1 rfl rfl)
theorem dX3_points_4 : decode cX3_points 4 = .ok (.bipush 10, 2) := dk_16 10 (dk_at dksX3_points_0 4 rfl rfl)
theorem dX3_points_6 : decode cX3_points 6 = .ok (.aload_n 0, 1) := dk_42 (dk_at dksX3_points_0 6 rfl rfl)
theorem dX3_points_7 : decode cX3_points 7 = .ok (.invokevirtual 136, 3) := dk_182 0 136 (dk_at dksX3_points_0 7 rfl rfl)
theorem dX3_points_10 : decode cX3_points 10 = .ok (.imul, 1) := dk_104 (dk_at dksX3_points_0 10 rfl rfl)
theorem dX3_points_11 : decode cX3_points 11 = .ok (.iadd, 1) := dk_96 (dk_at dksX3_points_0 11 rfl rfl)
theorem dX3_points_12 : decode cX3_points 12 = .ok (.ireturn, 1) := dk_172 (dk_at dksX3_points_0 12 rfl rfl)
abbrev cX3_sum : ByteArray := prog_11_method_21_code
def yX3_sum : MethodName := ⟨RX3, "sum", "()I"⟩
def dkwX3_sum_2 : List UInt8 := [60, 132, 3, 1, 167, 255, 218, 132, 2, 1, 167, 255, 202, 27, 172]
abbrev dktX3_sum_2 : List UInt8 := dkwX3_sum_2 ++ []
def dkwX3_sum_1 : List UInt8 := [153, 0, 25, 42, 42, 28, 29, 182, 0, 68, 182, 0, 64, 153, 0, 12, 27, 42, 28, 29, 182, 0, 71, 96]
abbrev dktX3_sum_1 : List UInt8 := dkwX3_sum_1 ++ dktX3_sum_2
def dkwX3_sum_0 : List UInt8 := [3, 60, 3, 61, 28, 42, 182, 0, 62, 162, 0, 52, 3, 62, 29, 6, 162, 0, 39, 42, 28, 182, 0, 64]
abbrev dktX3_sum_0 : List UInt8 := dkwX3_sum_0 ++ dktX3_sum_1
theorem dksX3_sum_0 : cX3_sum.data.toList.drop 0 = dktX3_sum_0 := by decide +kernel
theorem dksX3_sum_1 : cX3_sum.data.toList.drop 24 = dktX3_sum_1 := dk_seg dksX3_sum_0 24 rfl rfl
theorem dksX3_sum_2 : cX3_sum.data.toList.drop 48 = dktX3_sum_2 := dk_seg dksX3_sum_1 24 rfl rfl
theorem dX3_sum_0 : decode cX3_sum 0 = .ok (.iconst 0, 1) := dk_3 (dk_at dksX3_sum_0 0 rfl rfl)
theorem dX3_sum_1 : decode cX3_sum 1 = .ok (.istore_n 1, 1) := dk_60 (dk_at dksX3_sum_0 1 rfl rfl)
theorem dX3_sum_2 : decode cX3_sum 2 = .ok (.iconst 0, 1) := dk_3 (dk_at dksX3_sum_0 2 rfl rfl)
theorem dX3_sum_3 : decode cX3_sum 3 = .ok (.istore_n 2, 1) := dk_61 (dk_at dksX3_sum_0 3 rfl rfl)
theorem dX3_sum_4 : decode cX3_sum 4 = .ok (.iload_n 2, 1) := dk_28 (dk_at dksX3_sum_0 4 rfl rfl)
theorem dX3_sum_5 : decode cX3_sum 5 = .ok (.aload_n 0, 1) := dk_42 (dk_at dksX3_sum_0 5 rfl rfl)
theorem dX3_sum_6 : decode cX3_sum 6 = .ok (.invokevirtual 62, 3) := dk_182 0 62 (dk_at dksX3_sum_0 6 rfl rfl)
theorem dX3_sum_9 : decode cX3_sum 9 = .ok (.if_icmp .ge 52, 3) := dk_162 0 52 (dk_at dksX3_sum_0 9 rfl rfl)
theorem dX3_sum_12 : decode cX3_sum 12 = .ok (.iconst 0, 1) := dk_3 (dk_at dksX3_sum_0 12 rfl rfl)
theorem dX3_sum_13 : decode cX3_sum 13 = .ok (.istore_n 3, 1) := dk_62 (dk_at dksX3_sum_0 13 rfl rfl)
theorem dX3_sum_14 : decode cX3_sum 14 = .ok (.iload_n 3, 1) := dk_29 (dk_at dksX3_sum_0 14 rfl rfl)
theorem dX3_sum_15 : decode cX3_sum 15 = .ok (.iconst 3, 1) := dk_6 (dk_at dksX3_sum_0 15 rfl rfl)
theorem dX3_sum_16 : decode cX3_sum 16 = .ok (.if_icmp .ge 39, 3) := dk_162 0 39 (dk_at dksX3_sum_0 16 rfl rfl)
theorem dX3_sum_19 : decode cX3_sum 19 = .ok (.aload_n 0, 1) := dk_42 (dk_at dksX3_sum_0 19 rfl rfl)
theorem dX3_sum_20 : decode cX3_sum 20 = .ok (.iload_n 2, 1) := dk_28 (dk_at dksX3_sum_0 20 rfl rfl)
theorem dX3_sum_21 : decode cX3_sum 21 = .ok (.invokevirtual 64, 3) := dk_182 0 64 (dk_at dksX3_sum_0 21 rfl rfl)
theorem dX3_sum_24 : decode cX3_sum 24 = .ok (.ifCond .eq 25, 3) := dk_153 0 25 (dk_at dksX3_sum_1 0 rfl rfl)
theorem dX3_sum_27 : decode cX3_sum 27 = .ok (.aload_n 0, 1) := dk_42 (dk_at dksX3_sum_1 3 rfl rfl)
theorem dX3_sum_28 : decode cX3_sum 28 = .ok (.aload_n 0, 1) := dk_42 (dk_at dksX3_sum_1 4 rfl rfl)
theorem dX3_sum_29 : decode cX3_sum 29 = .ok (.iload_n 2, 1) := dk_28 (dk_at dksX3_sum_1 5 rfl rfl)
theorem dX3_sum_30 : decode cX3_sum 30 = .ok (.iload_n 3, 1) := dk_29 (dk_at dksX3_sum_1 6 rfl rfl)
theorem dX3_sum_31 : decode cX3_sum 31 = .ok (.invokevirtual 68, 3) := dk_182 0 68 (dk_at dksX3_sum_1 7 rfl rfl)
theorem dX3_sum_34 : decode cX3_sum 34 = .ok (.invokevirtual 64, 3) := dk_182 0 64 (dk_at dksX3_sum_1 10 rfl rfl)
theorem dX3_sum_37 : decode cX3_sum 37 = .ok (.ifCond .eq 12, 3) := dk_153 0 12 (dk_at dksX3_sum_1 13 rfl rfl)
theorem dX3_sum_40 : decode cX3_sum 40 = .ok (.iload_n 1, 1) := dk_27 (dk_at dksX3_sum_1 16 rfl rfl)
theorem dX3_sum_41 : decode cX3_sum 41 = .ok (.aload_n 0, 1) := dk_42 (dk_at dksX3_sum_1 17 rfl rfl)
theorem dX3_sum_42 : decode cX3_sum 42 = .ok (.iload_n 2, 1) := dk_28 (dk_at dksX3_sum_1 18 rfl rfl)
theorem dX3_sum_43 : decode cX3_sum 43 = .ok (.iload_n 3, 1) := dk_29 (dk_at dksX3_sum_1 19 rfl rfl)
theorem dX3_sum_44 : decode cX3_sum 44 = .ok (.invokevirtual 71, 3) := dk_182 0 71 (dk_at dksX3_sum_1 20 rfl rfl)
theorem dX3_sum_47 : decode cX3_sum 47 = .ok (.iadd, 1) := dk_96 (dk_at dksX3_sum_1 23 rfl rfl)
theorem dX3_sum_48 : decode cX3_sum 48 = .ok (.istore_n 1, 1) := dk_60 (dk_at dksX3_sum_2 0 rfl rfl)
theorem dX3_sum_49 : decode cX3_sum 49 = .ok (.iinc 3 1, 3) := dk_132 3 1 (dk_at dksX3_sum_2 1 rfl rfl)
theorem dX3_sum_52 : decode cX3_sum 52 = .ok (.goto (-38), 3) := dk_167 255 218 (dk_at dksX3_sum_2 4 rfl rfl)
theorem dX3_sum_55 : decode cX3_sum 55 = .ok (.iinc 2 1, 3) := dk_132 2 1 (dk_at dksX3_sum_2 7 rfl rfl)
theorem dX3_sum_58 : decode cX3_sum 58 = .ok (.goto (-54), 3) := dk_167 255 202 (dk_at dksX3_sum_2 10 rfl rfl)
theorem dX3_sum_61 : decode cX3_sum 61 = .ok (.iload_n 1, 1) := dk_27 (dk_at dksX3_sum_2 13 rfl rfl)
theorem dX3_sum_62 : decode cX3_sum 62 = .ok (.ireturn, 1) := dk_172 (dk_at dksX3_sum_2 14 rfl rfl)
abbrev cX3_number : ByteArray := prog_11_method_6_code
def yX3_number : MethodName := ⟨RX3, "number", "(II)I"⟩
def dkwX3_number_1 : List UInt8 := [180, 0, 35, 29, 182, 0, 48, 192, 0, 43, 182, 0, 54, 182, 0, 58, 172]
abbrev dktX3_number_1 : List UInt8 := dkwX3_number_1 ++ []
def dkwX3_number_0 : List UInt8 := [42, 180, 0, 28, 27, 46, 4, 100, 62, 42, 180, 0, 21, 29, 182, 0, 48, 192, 0, 52, 28, 42]
abbrev dktX3_number_0 : List UInt8 := dkwX3_number_0 ++ dktX3_number_1
theorem dksX3_number_0 : cX3_number.data.toList.drop 0 = dktX3_number_0 := by decide +kernel
theorem dksX3_number_1 : cX3_number.data.toList.drop 22 = dktX3_number_1 := dk_seg dksX3_number_0 22 rfl rfl
theorem dX3_number_0 : decode cX3_number 0 = .ok (.aload_n 0, 1) := dk_42 (dk_at dksX3_number_0 0 rfl rfl)
theorem dX3_number_1 : decode cX3_number 1 = .ok (.getfield 28, 3) := dk_180 0 28 (dk_at dksX3_number_0 1 rfl rfl)
theorem dX3_number_4 : decode cX3_number 4 = .ok (.iload_n 1, 1) := dk_27 (dk_at dksX3_number_0 4 rfl rfl)
theorem dX3_number_5 : decode cX3_number 5 = .ok (.iaload, 1) := dk_46 (dk_at dksX3_number_0 5 rfl rfl)
theorem dX3_number_6 : decode cX3_number 6 = .ok (.iconst 1, 1) := dk_4 (dk_at dksX3_number_0 6 rfl rfl)
theorem dX3_number_7 : decode cX3_number 7 = .ok (.isub, 1) := dk_100 (dk_at dksX3_number_0 7 rfl rfl)
theorem dX3_number_8 : decode cX3_number 8 = .ok (.istore_n 3, 1) := dk_62 (dk_at dksX3_number_0 8 rfl rfl)
theorem dX3_number_9 : decode cX3_number 9 = .ok (.aload_n 0, 1) := dk_42 (dk_at dksX3_number_0 9 rfl rfl)
theorem dX3_number_10 : decode cX3_number 10 = .ok (.getfield 21, 3) := dk_180 0 21 (dk_at dksX3_number_0 10 rfl rfl)
theorem dX3_number_13 : decode cX3_number 13 = .ok (.iload_n 3, 1) := dk_29 (dk_at dksX3_number_0 13 rfl rfl)
theorem dX3_number_14 : decode cX3_number 14 = .ok (.invokevirtual 48, 3) := dk_182 0 48 (dk_at dksX3_number_0 14 rfl rfl)
theorem dX3_number_17 : decode cX3_number 17 = .ok (.checkcast 52, 3) := dk_192 0 52 (dk_at dksX3_number_0 17 rfl rfl)
theorem dX3_number_20 : decode cX3_number 20 = .ok (.iload_n 2, 1) := dk_28 (dk_at dksX3_number_0 20 rfl rfl)
theorem dX3_number_21 : decode cX3_number 21 = .ok (.aload_n 0, 1) := dk_42 (dk_at dksX3_number_0 21 rfl rfl)
theorem dX3_number_22 : decode cX3_number 22 = .ok (.getfield 35, 3) := dk_180 0 35 (dk_at dksX3_number_1 0 rfl rfl)
theorem dX3_number_25 : decode cX3_number 25 = .ok (.iload_n 3, 1) := dk_29 (dk_at dksX3_number_1 3 rfl rfl)
theorem dX3_number_26 : decode cX3_number 26 = .ok (.invokevirtual 48, 3) := dk_182 0 48 (dk_at dksX3_number_1 4 rfl rfl)
theorem dX3_number_29 : decode cX3_number 29 = .ok (.checkcast 43, 3) := dk_192 0 43 (dk_at dksX3_number_1 7 rfl rfl)
theorem dX3_number_32 : decode cX3_number 32 = .ok (.invokevirtual 54, 3) := dk_182 0 54 (dk_at dksX3_number_1 10 rfl rfl)
theorem dX3_number_35 : decode cX3_number 35 = .ok (.invokevirtual 58, 3) := dk_182 0 58 (dk_at dksX3_number_1 13 rfl rfl)
theorem dX3_number_38 : decode cX3_number 38 = .ok (.ireturn, 1) := dk_172 (dk_at dksX3_number_1 16 rfl rfl)
abbrev cX3_rings : ByteArray := prog_11_method_23_code
def yX3_rings : MethodName := ⟨RX3, "rings", "()I"⟩
def dkwX3_rings_1 : List UInt8 := [167, 0, 4, 3, 96, 60, 132, 2, 1, 167, 255, 229, 27, 172]
abbrev dktX3_rings_1 : List UInt8 := dkwX3_rings_1 ++ []
def dkwX3_rings_0 : List UInt8 := [3, 60, 3, 61, 28, 42, 182, 0, 62, 162, 0, 25, 27, 42, 28, 182, 0, 130, 153, 0, 7, 4]
abbrev dktX3_rings_0 : List UInt8 := dkwX3_rings_0 ++ dktX3_rings_1
theorem dksX3_rings_0 : cX3_rings.data.toList.drop 0 = dktX3_rings_0 := by decide +kernel
theorem dksX3_rings_1 : cX3_rings.data.toList.drop 22 = dktX3_rings_1 := dk_seg dksX3_rings_0 22 rfl rfl
theorem dX3_rings_0 : decode cX3_rings 0 = .ok (.iconst 0, 1) := dk_3 (dk_at dksX3_rings_0 0 rfl rfl)
theorem dX3_rings_1 : decode cX3_rings 1 = .ok (.istore_n 1, 1) := dk_60 (dk_at dksX3_rings_0 1 rfl rfl)
theorem dX3_rings_2 : decode cX3_rings 2 = .ok (.iconst 0, 1) := dk_3 (dk_at dksX3_rings_0 2 rfl rfl)
theorem dX3_rings_3 : decode cX3_rings 3 = .ok (.istore_n 2, 1) := dk_61 (dk_at dksX3_rings_0 3 rfl rfl)
theorem dX3_rings_4 : decode cX3_rings 4 = .ok (.iload_n 2, 1) := dk_28 (dk_at dksX3_rings_0 4 rfl rfl)
theorem dX3_rings_5 : decode cX3_rings 5 = .ok (.aload_n 0, 1) := dk_42 (dk_at dksX3_rings_0 5 rfl rfl)
theorem dX3_rings_6 : decode cX3_rings 6 = .ok (.invokevirtual 62, 3) := dk_182 0 62 (dk_at dksX3_rings_0 6 rfl rfl)
theorem dX3_rings_9 : decode cX3_rings 9 = .ok (.if_icmp .ge 25, 3) := dk_162 0 25 (dk_at dksX3_rings_0 9 rfl rfl)
theorem dX3_rings_12 : decode cX3_rings 12 = .ok (.iload_n 1, 1) := dk_27 (dk_at dksX3_rings_0 12 rfl rfl)
theorem dX3_rings_13 : decode cX3_rings 13 = .ok (.aload_n 0, 1) := dk_42 (dk_at dksX3_rings_0 13 rfl rfl)
theorem dX3_rings_14 : decode cX3_rings 14 = .ok (.iload_n 2, 1) := dk_28 (dk_at dksX3_rings_0 14 rfl rfl)
theorem dX3_rings_15 : decode cX3_rings 15 = .ok (.invokevirtual 130, 3) := dk_182 0 130 (dk_at dksX3_rings_0 15 rfl rfl)
theorem dX3_rings_18 : decode cX3_rings 18 = .ok (.ifCond .eq 7, 3) := dk_153 0 7 (dk_at dksX3_rings_0 18 rfl rfl)
theorem dX3_rings_21 : decode cX3_rings 21 = .ok (.iconst 1, 1) := dk_4 (dk_at dksX3_rings_0 21 rfl rfl)
theorem dX3_rings_22 : decode cX3_rings 22 = .ok (.goto 4, 3) := dk_167 0 4 (dk_at dksX3_rings_1 0 rfl rfl)
theorem dX3_rings_25 : decode cX3_rings 25 = .ok (.iconst 0, 1) := dk_3 (dk_at dksX3_rings_1 3 rfl rfl)
theorem dX3_rings_26 : decode cX3_rings 26 = .ok (.iadd, 1) := dk_96 (dk_at dksX3_rings_1 4 rfl rfl)
theorem dX3_rings_27 : decode cX3_rings 27 = .ok (.istore_n 1, 1) := dk_60 (dk_at dksX3_rings_1 5 rfl rfl)
theorem dX3_rings_28 : decode cX3_rings 28 = .ok (.iinc 2 1, 3) := dk_132 2 1 (dk_at dksX3_rings_1 6 rfl rfl)
theorem dX3_rings_31 : decode cX3_rings 31 = .ok (.goto (-27), 3) := dk_167 255 229 (dk_at dksX3_rings_1 9 rfl rfl)
theorem dX3_rings_34 : decode cX3_rings 34 = .ok (.iload_n 1, 1) := dk_27 (dk_at dksX3_rings_1 12 rfl rfl)
theorem dX3_rings_35 : decode cX3_rings 35 = .ok (.ireturn, 1) := dk_172 (dk_at dksX3_rings_1 13 rfl rfl)
abbrev cX3_isRing : ByteArray := prog_11_method_22_code
def yX3_isRing : MethodName := ⟨RX3, "isRing", "(I)Z"⟩
def dkwX3_isRing_0 : List UInt8 := [42, 27, 182, 0, 77, 16, 6, 160, 0, 7, 4, 167, 0, 4, 3, 172]
abbrev dktX3_isRing_0 : List UInt8 := dkwX3_isRing_0 ++ []
theorem dksX3_isRing_0 : cX3_isRing.data.toList.drop 0 = dktX3_isRing_0 := by decide +kernel
theorem dX3_isRing_0 : decode cX3_isRing 0 = .ok (.aload_n 0, 1) := dk_42 (dk_at dksX3_isRing_0 0 rfl rfl)
theorem dX3_isRing_1 : decode cX3_isRing 1 = .ok (.iload_n 1, 1) := dk_27 (dk_at dksX3_isRing_0 1 rfl rfl)
theorem dX3_isRing_2 : decode cX3_isRing 2 = .ok (.invokevirtual 77, 3) := dk_182 0 77 (dk_at dksX3_isRing_0 2 rfl rfl)
theorem dX3_isRing_5 : decode cX3_isRing 5 = .ok (.bipush 6, 2) := dk_16 6 (dk_at dksX3_isRing_0 5 rfl rfl)
theorem dX3_isRing_7 : decode cX3_isRing 7 = .ok (.if_icmp .ne 7, 3) := dk_160 0 7 (dk_at dksX3_isRing_0 7 rfl rfl)
theorem dX3_isRing_10 : decode cX3_isRing 10 = .ok (.iconst 1, 1) := dk_4 (dk_at dksX3_isRing_0 10 rfl rfl)
theorem dX3_isRing_11 : decode cX3_isRing 11 = .ok (.goto 4, 3) := dk_167 0 4 (dk_at dksX3_isRing_0 11 rfl rfl)
theorem dX3_isRing_14 : decode cX3_isRing 14 = .ok (.iconst 0, 1) := dk_3 (dk_at dksX3_isRing_0 14 rfl rfl)
theorem dX3_isRing_15 : decode cX3_isRing 15 = .ok (.ireturn, 1) := dk_172 (dk_at dksX3_isRing_0 15 rfl rfl)
abbrev cX3_groups : ByteArray := prog_11_method_25_code
def yX3_groups : MethodName := ⟨RX3, "groups", "()I"⟩
def dkwX3_groups_6 : List UInt8 := [167, 255, 185, 132, 4, 1, 167, 255, 132, 29, 172]
abbrev dktX3_groups_6 : List UInt8 := dkwX3_groups_6 ++ []
def dkwX3_groups_5 : List UInt8 := [43, 21, 8, 4, 84, 44, 21, 5, 21, 8, 79, 132, 5, 1, 132, 7, 1, 167, 255, 201, 132, 6, 1]
abbrev dktX3_groups_5 : List UInt8 := dkwX3_groups_5 ++ dktX3_groups_6
def dkwX3_groups_4 : List UInt8 := [182, 0, 68, 54, 8, 42, 21, 8, 182, 0, 64, 153, 0, 27, 43, 21, 8, 51, 153, 0, 6, 167, 0, 17]
abbrev dktX3_groups_4 : List UInt8 := dkwX3_groups_4 ++ dktX3_groups_5
def dkwX3_groups_3 : List UInt8 := [21, 5, 162, 0, 70, 3, 54, 7, 21, 7, 16, 6, 162, 0, 54, 42, 44, 21, 6, 46, 21, 7]
abbrev dktX3_groups_3 : List UInt8 := dkwX3_groups_3 ++ dktX3_groups_4
def dkwX3_groups_2 : List UInt8 := [167, 0, 96, 132, 3, 1, 43, 21, 4, 4, 84, 44, 3, 21, 4, 79, 4, 54, 5, 3, 54, 6, 21, 6]
abbrev dktX3_groups_2 : List UInt8 := dkwX3_groups_2 ++ dktX3_groups_3
def dkwX3_groups_1 : List UInt8 := [182, 0, 62, 162, 0, 121, 42, 21, 4, 182, 0, 64, 153, 0, 106, 43, 21, 4, 51, 153, 0, 6]
abbrev dktX3_groups_1 : List UInt8 := dkwX3_groups_1 ++ dktX3_groups_2
def dkwX3_groups_0 : List UInt8 := [42, 182, 0, 62, 188, 4, 76, 42, 182, 0, 62, 188, 10, 77, 3, 62, 3, 54, 4, 21, 4, 42]
abbrev dktX3_groups_0 : List UInt8 := dkwX3_groups_0 ++ dktX3_groups_1
theorem dksX3_groups_0 : cX3_groups.data.toList.drop 0 = dktX3_groups_0 := by decide +kernel
theorem dksX3_groups_1 : cX3_groups.data.toList.drop 22 = dktX3_groups_1 := dk_seg dksX3_groups_0 22 rfl rfl
theorem dksX3_groups_2 : cX3_groups.data.toList.drop 44 = dktX3_groups_2 := dk_seg dksX3_groups_1 22 rfl rfl
theorem dksX3_groups_3 : cX3_groups.data.toList.drop 68 = dktX3_groups_3 := dk_seg dksX3_groups_2 24 rfl rfl
theorem dksX3_groups_4 : cX3_groups.data.toList.drop 90 = dktX3_groups_4 := dk_seg dksX3_groups_3 22 rfl rfl
theorem dksX3_groups_5 : cX3_groups.data.toList.drop 114 = dktX3_groups_5 := dk_seg dksX3_groups_4 24 rfl rfl
theorem dksX3_groups_6 : cX3_groups.data.toList.drop 137 = dktX3_groups_6 := dk_seg dksX3_groups_5 23 rfl rfl
theorem dX3_groups_0 : decode cX3_groups 0 = .ok (.aload_n 0, 1) := dk_42 (dk_at dksX3_groups_0 0 rfl rfl)
theorem dX3_groups_1 : decode cX3_groups 1 = .ok (.invokevirtual 62, 3) := dk_182 0 62 (dk_at dksX3_groups_0 1 rfl rfl)
theorem dX3_groups_4 : decode cX3_groups 4 = .ok (.newarray .boolean, 2) := dk_188_4 (dk_at dksX3_groups_0 4 rfl rfl)
theorem dX3_groups_6 : decode cX3_groups 6 = .ok (.astore_n 1, 1) := dk_76 (dk_at dksX3_groups_0 6 rfl rfl)
theorem dX3_groups_7 : decode cX3_groups 7 = .ok (.aload_n 0, 1) := dk_42 (dk_at dksX3_groups_0 7 rfl rfl)
theorem dX3_groups_8 : decode cX3_groups 8 = .ok (.invokevirtual 62, 3) := dk_182 0 62 (dk_at dksX3_groups_0 8 rfl rfl)
theorem dX3_groups_11 : decode cX3_groups 11 = .ok (.newarray .int, 2) := dk_188_10 (dk_at dksX3_groups_0 11 rfl rfl)
theorem dX3_groups_13 : decode cX3_groups 13 = .ok (.astore_n 2, 1) := dk_77 (dk_at dksX3_groups_0 13 rfl rfl)
theorem dX3_groups_14 : decode cX3_groups 14 = .ok (.iconst 0, 1) := dk_3 (dk_at dksX3_groups_0 14 rfl rfl)
theorem dX3_groups_15 : decode cX3_groups 15 = .ok (.istore_n 3, 1) := dk_62 (dk_at dksX3_groups_0 15 rfl rfl)
theorem dX3_groups_16 : decode cX3_groups 16 = .ok (.iconst 0, 1) := dk_3 (dk_at dksX3_groups_0 16 rfl rfl)
theorem dX3_groups_17 : decode cX3_groups 17 = .ok (.istore 4, 2) := dk_54 4 (dk_at dksX3_groups_0 17 rfl rfl)
theorem dX3_groups_19 : decode cX3_groups 19 = .ok (.iload 4, 2) := dk_21 4 (dk_at dksX3_groups_0 19 rfl rfl)
theorem dX3_groups_21 : decode cX3_groups 21 = .ok (.aload_n 0, 1) := dk_42 (dk_at dksX3_groups_0 21 rfl rfl)
theorem dX3_groups_22 : decode cX3_groups 22 = .ok (.invokevirtual 62, 3) := dk_182 0 62 (dk_at dksX3_groups_1 0 rfl rfl)
theorem dX3_groups_25 : decode cX3_groups 25 = .ok (.if_icmp .ge 121, 3) := dk_162 0 121 (dk_at dksX3_groups_1 3 rfl rfl)
theorem dX3_groups_28 : decode cX3_groups 28 = .ok (.aload_n 0, 1) := dk_42 (dk_at dksX3_groups_1 6 rfl rfl)
theorem dX3_groups_29 : decode cX3_groups 29 = .ok (.iload 4, 2) := dk_21 4 (dk_at dksX3_groups_1 7 rfl rfl)
theorem dX3_groups_31 : decode cX3_groups 31 = .ok (.invokevirtual 64, 3) := dk_182 0 64 (dk_at dksX3_groups_1 9 rfl rfl)
theorem dX3_groups_34 : decode cX3_groups 34 = .ok (.ifCond .eq 106, 3) := dk_153 0 106 (dk_at dksX3_groups_1 12 rfl rfl)
theorem dX3_groups_37 : decode cX3_groups 37 = .ok (.aload_n 1, 1) := dk_43 (dk_at dksX3_groups_1 15 rfl rfl)
theorem dX3_groups_38 : decode cX3_groups 38 = .ok (.iload 4, 2) := dk_21 4 (dk_at dksX3_groups_1 16 rfl rfl)
theorem dX3_groups_40 : decode cX3_groups 40 = .ok (.baload, 1) := dk_51 (dk_at dksX3_groups_1 18 rfl rfl)
theorem dX3_groups_41 : decode cX3_groups 41 = .ok (.ifCond .eq 6, 3) := dk_153 0 6 (dk_at dksX3_groups_1 19 rfl rfl)
theorem dX3_groups_44 : decode cX3_groups 44 = .ok (.goto 96, 3) := dk_167 0 96 (dk_at dksX3_groups_2 0 rfl rfl)
theorem dX3_groups_47 : decode cX3_groups 47 = .ok (.iinc 3 1, 3) := dk_132 3 1 (dk_at dksX3_groups_2 3 rfl rfl)
theorem dX3_groups_50 : decode cX3_groups 50 = .ok (.aload_n 1, 1) := dk_43 (dk_at dksX3_groups_2 6 rfl rfl)
theorem dX3_groups_51 : decode cX3_groups 51 = .ok (.iload 4, 2) := dk_21 4 (dk_at dksX3_groups_2 7 rfl rfl)
theorem dX3_groups_53 : decode cX3_groups 53 = .ok (.iconst 1, 1) := dk_4 (dk_at dksX3_groups_2 9 rfl rfl)
theorem dX3_groups_54 : decode cX3_groups 54 = .ok (.bastore, 1) := dk_84 (dk_at dksX3_groups_2 10 rfl rfl)
theorem dX3_groups_55 : decode cX3_groups 55 = .ok (.aload_n 2, 1) := dk_44 (dk_at dksX3_groups_2 11 rfl rfl)
theorem dX3_groups_56 : decode cX3_groups 56 = .ok (.iconst 0, 1) := dk_3 (dk_at dksX3_groups_2 12 rfl rfl)
theorem dX3_groups_57 : decode cX3_groups 57 = .ok (.iload 4, 2) := dk_21 4 (dk_at dksX3_groups_2 13 rfl rfl)
theorem dX3_groups_59 : decode cX3_groups 59 = .ok (.iastore, 1) := dk_79 (dk_at dksX3_groups_2 15 rfl rfl)
theorem dX3_groups_60 : decode cX3_groups 60 = .ok (.iconst 1, 1) := dk_4 (dk_at dksX3_groups_2 16 rfl rfl)
theorem dX3_groups_61 : decode cX3_groups 61 = .ok (.istore 5, 2) := dk_54 5 (dk_at dksX3_groups_2 17 rfl rfl)
theorem dX3_groups_63 : decode cX3_groups 63 = .ok (.iconst 0, 1) := dk_3 (dk_at dksX3_groups_2 19 rfl rfl)
theorem dX3_groups_64 : decode cX3_groups 64 = .ok (.istore 6, 2) := dk_54 6 (dk_at dksX3_groups_2 20 rfl rfl)
theorem dX3_groups_66 : decode cX3_groups 66 = .ok (.iload 6, 2) := dk_21 6 (dk_at dksX3_groups_2 22 rfl rfl)
theorem dX3_groups_68 : decode cX3_groups 68 = .ok (.iload 5, 2) := dk_21 5 (dk_at dksX3_groups_3 0 rfl rfl)
theorem dX3_groups_70 : decode cX3_groups 70 = .ok (.if_icmp .ge 70, 3) := dk_162 0 70 (dk_at dksX3_groups_3 2 rfl rfl)
theorem dX3_groups_73 : decode cX3_groups 73 = .ok (.iconst 0, 1) := dk_3 (dk_at dksX3_groups_3 5 rfl rfl)
theorem dX3_groups_74 : decode cX3_groups 74 = .ok (.istore 7, 2) := dk_54 7 (dk_at dksX3_groups_3 6 rfl rfl)
theorem dX3_groups_76 : decode cX3_groups 76 = .ok (.iload 7, 2) := dk_21 7 (dk_at dksX3_groups_3 8 rfl rfl)
theorem dX3_groups_78 : decode cX3_groups 78 = .ok (.bipush 6, 2) := dk_16 6 (dk_at dksX3_groups_3 10 rfl rfl)
theorem dX3_groups_80 : decode cX3_groups 80 = .ok (.if_icmp .ge 54, 3) := dk_162 0 54 (dk_at dksX3_groups_3 12 rfl rfl)
theorem dX3_groups_83 : decode cX3_groups 83 = .ok (.aload_n 0, 1) := dk_42 (dk_at dksX3_groups_3 15 rfl rfl)
theorem dX3_groups_84 : decode cX3_groups 84 = .ok (.aload_n 2, 1) := dk_44 (dk_at dksX3_groups_3 16 rfl rfl)
theorem dX3_groups_85 : decode cX3_groups 85 = .ok (.iload 6, 2) := dk_21 6 (dk_at dksX3_groups_3 17 rfl rfl)
theorem dX3_groups_87 : decode cX3_groups 87 = .ok (.iaload, 1) := dk_46 (dk_at dksX3_groups_3 19 rfl rfl)
theorem dX3_groups_88 : decode cX3_groups 88 = .ok (.iload 7, 2) := dk_21 7 (dk_at dksX3_groups_3 20 rfl rfl)
theorem dX3_groups_90 : decode cX3_groups 90 = .ok (.invokevirtual 68, 3) := dk_182 0 68 (dk_at dksX3_groups_4 0 rfl rfl)
theorem dX3_groups_93 : decode cX3_groups 93 = .ok (.istore 8, 2) := dk_54 8 (dk_at dksX3_groups_4 3 rfl rfl)
theorem dX3_groups_95 : decode cX3_groups 95 = .ok (.aload_n 0, 1) := dk_42 (dk_at dksX3_groups_4 5 rfl rfl)
theorem dX3_groups_96 : decode cX3_groups 96 = .ok (.iload 8, 2) := dk_21 8 (dk_at dksX3_groups_4 6 rfl rfl)
theorem dX3_groups_98 : decode cX3_groups 98 = .ok (.invokevirtual 64, 3) := dk_182 0 64 (dk_at dksX3_groups_4 8 rfl rfl)
theorem dX3_groups_101 : decode cX3_groups 101 = .ok (.ifCond .eq 27, 3) := dk_153 0 27 (dk_at dksX3_groups_4 11 rfl rfl)
theorem dX3_groups_104 : decode cX3_groups 104 = .ok (.aload_n 1, 1) := dk_43 (dk_at dksX3_groups_4 14 rfl rfl)
theorem dX3_groups_105 : decode cX3_groups 105 = .ok (.iload 8, 2) := dk_21 8 (dk_at dksX3_groups_4 15 rfl rfl)
theorem dX3_groups_107 : decode cX3_groups 107 = .ok (.baload, 1) := dk_51 (dk_at dksX3_groups_4 17 rfl rfl)
theorem dX3_groups_108 : decode cX3_groups 108 = .ok (.ifCond .eq 6, 3) := dk_153 0 6 (dk_at dksX3_groups_4 18 rfl rfl)
theorem dX3_groups_111 : decode cX3_groups 111 = .ok (.goto 17, 3) := dk_167 0 17 (dk_at dksX3_groups_4 21 rfl rfl)
theorem dX3_groups_114 : decode cX3_groups 114 = .ok (.aload_n 1, 1) := dk_43 (dk_at dksX3_groups_5 0 rfl rfl)
theorem dX3_groups_115 : decode cX3_groups 115 = .ok (.iload 8, 2) := dk_21 8 (dk_at dksX3_groups_5 1 rfl rfl)
theorem dX3_groups_117 : decode cX3_groups 117 = .ok (.iconst 1, 1) := dk_4 (dk_at dksX3_groups_5 3 rfl rfl)
theorem dX3_groups_118 : decode cX3_groups 118 = .ok (.bastore, 1) := dk_84 (dk_at dksX3_groups_5 4 rfl rfl)
theorem dX3_groups_119 : decode cX3_groups 119 = .ok (.aload_n 2, 1) := dk_44 (dk_at dksX3_groups_5 5 rfl rfl)
theorem dX3_groups_120 : decode cX3_groups 120 = .ok (.iload 5, 2) := dk_21 5 (dk_at dksX3_groups_5 6 rfl rfl)
theorem dX3_groups_122 : decode cX3_groups 122 = .ok (.iload 8, 2) := dk_21 8 (dk_at dksX3_groups_5 8 rfl rfl)
theorem dX3_groups_124 : decode cX3_groups 124 = .ok (.iastore, 1) := dk_79 (dk_at dksX3_groups_5 10 rfl rfl)
theorem dX3_groups_125 : decode cX3_groups 125 = .ok (.iinc 5 1, 3) := dk_132 5 1 (dk_at dksX3_groups_5 11 rfl rfl)
theorem dX3_groups_128 : decode cX3_groups 128 = .ok (.iinc 7 1, 3) := dk_132 7 1 (dk_at dksX3_groups_5 14 rfl rfl)
theorem dX3_groups_131 : decode cX3_groups 131 = .ok (.goto (-55), 3) := dk_167 255 201 (dk_at dksX3_groups_5 17 rfl rfl)
theorem dX3_groups_134 : decode cX3_groups 134 = .ok (.iinc 6 1, 3) := dk_132 6 1 (dk_at dksX3_groups_5 20 rfl rfl)
theorem dX3_groups_137 : decode cX3_groups 137 = .ok (.goto (-71), 3) := dk_167 255 185 (dk_at dksX3_groups_6 0 rfl rfl)
theorem dX3_groups_140 : decode cX3_groups 140 = .ok (.iinc 4 1, 3) := dk_132 4 1 (dk_at dksX3_groups_6 3 rfl rfl)
theorem dX3_groups_143 : decode cX3_groups 143 = .ok (.goto (-124), 3) := dk_167 255 132 (dk_at dksX3_groups_6 6 rfl rfl)
theorem dX3_groups_146 : decode cX3_groups 146 = .ok (.iload_n 3, 1) := dk_29 (dk_at dksX3_groups_6 9 rfl rfl)
theorem dX3_groups_147 : decode cX3_groups 147 = .ok (.ireturn, 1) := dk_172 (dk_at dksX3_groups_6 10 rfl rfl)
abbrev cX3_copy : ByteArray := prog_11_method_30_code
def yX3_copy : MethodName := ⟨RX3, "copy", "(LRingDomino$Game;)LRingDomino$Game;"⟩
def dkwX3_copy_5 : List UInt8 := [180, 0, 35, 182, 0, 204, 87, 42, 176]
abbrev dktX3_copy_5 : List UInt8 := dkwX3_copy_5 ++ []
def dkwX3_copy_4 : List UInt8 := [42, 180, 0, 32, 43, 180, 0, 32, 182, 0, 204, 87, 42, 180, 0, 35, 182, 0, 201, 42, 180, 0, 35, 43]
abbrev dktX3_copy_4 : List UInt8 := dkwX3_copy_4 ++ dktX3_copy_5
def dkwX3_copy_3 : List UInt8 := [180, 0, 28, 3, 42, 180, 0, 28, 3, 42, 180, 0, 28, 190, 184, 0, 208, 42, 180, 0, 32, 182, 0, 201]
abbrev dktX3_copy_3 : List UInt8 := dkwX3_copy_3 ++ dktX3_copy_4
def dkwX3_copy_2 : List UInt8 := [180, 0, 25, 182, 0, 204, 87, 42, 43, 180, 0, 177, 181, 0, 177, 42, 43, 180, 0, 174, 181, 0, 174, 43]
abbrev dktX3_copy_2 : List UInt8 := dkwX3_copy_2 ++ dktX3_copy_3
def dkwX3_copy_1 : List UInt8 := [180, 0, 21, 43, 180, 0, 21, 182, 0, 204, 87, 42, 180, 0, 25, 182, 0, 201, 42, 180, 0, 25, 43]
abbrev dktX3_copy_1 : List UInt8 := dkwX3_copy_1 ++ dktX3_copy_2
def dkwX3_copy_0 : List UInt8 := [42, 43, 180, 0, 9, 181, 0, 9, 42, 43, 180, 0, 15, 181, 0, 15, 42, 180, 0, 21, 182, 0, 201, 42]
abbrev dktX3_copy_0 : List UInt8 := dkwX3_copy_0 ++ dktX3_copy_1
theorem dksX3_copy_0 : cX3_copy.data.toList.drop 0 = dktX3_copy_0 := by decide +kernel
theorem dksX3_copy_1 : cX3_copy.data.toList.drop 24 = dktX3_copy_1 := dk_seg dksX3_copy_0 24 rfl rfl
theorem dksX3_copy_2 : cX3_copy.data.toList.drop 47 = dktX3_copy_2 := dk_seg dksX3_copy_1 23 rfl rfl
theorem dksX3_copy_3 : cX3_copy.data.toList.drop 71 = dktX3_copy_3 := dk_seg dksX3_copy_2 24 rfl rfl
theorem dksX3_copy_4 : cX3_copy.data.toList.drop 95 = dktX3_copy_4 := dk_seg dksX3_copy_3 24 rfl rfl
theorem dksX3_copy_5 : cX3_copy.data.toList.drop 119 = dktX3_copy_5 := dk_seg dksX3_copy_4 24 rfl rfl
theorem dX3_copy_0 : decode cX3_copy 0 = .ok (.aload_n 0, 1) := dk_42 (dk_at dksX3_copy_0 0 rfl rfl)
theorem dX3_copy_1 : decode cX3_copy 1 = .ok (.aload_n 1, 1) := dk_43 (dk_at dksX3_copy_0 1 rfl rfl)
theorem dX3_copy_2 : decode cX3_copy 2 = .ok (.getfield 9, 3) := dk_180 0 9 (dk_at dksX3_copy_0 2 rfl rfl)
theorem dX3_copy_5 : decode cX3_copy 5 = .ok (.putfield 9, 3) := dk_181 0 9 (dk_at dksX3_copy_0 5 rfl rfl)
theorem dX3_copy_8 : decode cX3_copy 8 = .ok (.aload_n 0, 1) := dk_42 (dk_at dksX3_copy_0 8 rfl rfl)
theorem dX3_copy_9 : decode cX3_copy 9 = .ok (.aload_n 1, 1) := dk_43 (dk_at dksX3_copy_0 9 rfl rfl)
theorem dX3_copy_10 : decode cX3_copy 10 = .ok (.getfield 15, 3) := dk_180 0 15 (dk_at dksX3_copy_0 10 rfl rfl)
theorem dX3_copy_13 : decode cX3_copy 13 = .ok (.putfield 15, 3) := dk_181 0 15 (dk_at dksX3_copy_0 13 rfl rfl)
theorem dX3_copy_16 : decode cX3_copy 16 = .ok (.aload_n 0, 1) := dk_42 (dk_at dksX3_copy_0 16 rfl rfl)
theorem dX3_copy_17 : decode cX3_copy 17 = .ok (.getfield 21, 3) := dk_180 0 21 (dk_at dksX3_copy_0 17 rfl rfl)
theorem dX3_copy_20 : decode cX3_copy 20 = .ok (.invokevirtual 201, 3) := dk_182 0 201 (dk_at dksX3_copy_0 20 rfl rfl)
theorem dX3_copy_23 : decode cX3_copy 23 = .ok (.aload_n 0, 1) := dk_42 (dk_at dksX3_copy_0 23 rfl rfl)
theorem dX3_copy_24 : decode cX3_copy 24 = .ok (.getfield 21, 3) := dk_180 0 21 (dk_at dksX3_copy_1 0 rfl rfl)
theorem dX3_copy_27 : decode cX3_copy 27 = .ok (.aload_n 1, 1) := dk_43 (dk_at dksX3_copy_1 3 rfl rfl)
theorem dX3_copy_28 : decode cX3_copy 28 = .ok (.getfield 21, 3) := dk_180 0 21 (dk_at dksX3_copy_1 4 rfl rfl)
theorem dX3_copy_31 : decode cX3_copy 31 = .ok (.invokevirtual 204, 3) := dk_182 0 204 (dk_at dksX3_copy_1 7 rfl rfl)
theorem dX3_copy_34 : decode cX3_copy 34 = .ok (.pop, 1) := dk_87 (dk_at dksX3_copy_1 10 rfl rfl)
theorem dX3_copy_35 : decode cX3_copy 35 = .ok (.aload_n 0, 1) := dk_42 (dk_at dksX3_copy_1 11 rfl rfl)
theorem dX3_copy_36 : decode cX3_copy 36 = .ok (.getfield 25, 3) := dk_180 0 25 (dk_at dksX3_copy_1 12 rfl rfl)
theorem dX3_copy_39 : decode cX3_copy 39 = .ok (.invokevirtual 201, 3) := dk_182 0 201 (dk_at dksX3_copy_1 15 rfl rfl)
theorem dX3_copy_42 : decode cX3_copy 42 = .ok (.aload_n 0, 1) := dk_42 (dk_at dksX3_copy_1 18 rfl rfl)
theorem dX3_copy_43 : decode cX3_copy 43 = .ok (.getfield 25, 3) := dk_180 0 25 (dk_at dksX3_copy_1 19 rfl rfl)
theorem dX3_copy_46 : decode cX3_copy 46 = .ok (.aload_n 1, 1) := dk_43 (dk_at dksX3_copy_1 22 rfl rfl)
theorem dX3_copy_47 : decode cX3_copy 47 = .ok (.getfield 25, 3) := dk_180 0 25 (dk_at dksX3_copy_2 0 rfl rfl)
theorem dX3_copy_50 : decode cX3_copy 50 = .ok (.invokevirtual 204, 3) := dk_182 0 204 (dk_at dksX3_copy_2 3 rfl rfl)
theorem dX3_copy_53 : decode cX3_copy 53 = .ok (.pop, 1) := dk_87 (dk_at dksX3_copy_2 6 rfl rfl)
theorem dX3_copy_54 : decode cX3_copy 54 = .ok (.aload_n 0, 1) := dk_42 (dk_at dksX3_copy_2 7 rfl rfl)
theorem dX3_copy_55 : decode cX3_copy 55 = .ok (.aload_n 1, 1) := dk_43 (dk_at dksX3_copy_2 8 rfl rfl)
theorem dX3_copy_56 : decode cX3_copy 56 = .ok (.getfield 177, 3) := dk_180 0 177 (dk_at dksX3_copy_2 9 rfl rfl)
theorem dX3_copy_59 : decode cX3_copy 59 = .ok (.putfield 177, 3) := dk_181 0 177 (dk_at dksX3_copy_2 12 rfl rfl)
theorem dX3_copy_62 : decode cX3_copy 62 = .ok (.aload_n 0, 1) := dk_42 (dk_at dksX3_copy_2 15 rfl rfl)
theorem dX3_copy_63 : decode cX3_copy 63 = .ok (.aload_n 1, 1) := dk_43 (dk_at dksX3_copy_2 16 rfl rfl)
theorem dX3_copy_64 : decode cX3_copy 64 = .ok (.getfield 174, 3) := dk_180 0 174 (dk_at dksX3_copy_2 17 rfl rfl)
theorem dX3_copy_67 : decode cX3_copy 67 = .ok (.putfield 174, 3) := dk_181 0 174 (dk_at dksX3_copy_2 20 rfl rfl)
theorem dX3_copy_70 : decode cX3_copy 70 = .ok (.aload_n 1, 1) := dk_43 (dk_at dksX3_copy_2 23 rfl rfl)
theorem dX3_copy_71 : decode cX3_copy 71 = .ok (.getfield 28, 3) := dk_180 0 28 (dk_at dksX3_copy_3 0 rfl rfl)
theorem dX3_copy_74 : decode cX3_copy 74 = .ok (.iconst 0, 1) := dk_3 (dk_at dksX3_copy_3 3 rfl rfl)
theorem dX3_copy_75 : decode cX3_copy 75 = .ok (.aload_n 0, 1) := dk_42 (dk_at dksX3_copy_3 4 rfl rfl)
theorem dX3_copy_76 : decode cX3_copy 76 = .ok (.getfield 28, 3) := dk_180 0 28 (dk_at dksX3_copy_3 5 rfl rfl)
theorem dX3_copy_79 : decode cX3_copy 79 = .ok (.iconst 0, 1) := dk_3 (dk_at dksX3_copy_3 8 rfl rfl)
theorem dX3_copy_80 : decode cX3_copy 80 = .ok (.aload_n 0, 1) := dk_42 (dk_at dksX3_copy_3 9 rfl rfl)
theorem dX3_copy_81 : decode cX3_copy 81 = .ok (.getfield 28, 3) := dk_180 0 28 (dk_at dksX3_copy_3 10 rfl rfl)
theorem dX3_copy_84 : decode cX3_copy 84 = .ok (.arraylength, 1) := dk_190 (dk_at dksX3_copy_3 13 rfl rfl)
theorem dX3_copy_85 : decode cX3_copy 85 = .ok (.invokestatic 208, 3) := dk_184 0 208 (dk_at dksX3_copy_3 14 rfl rfl)
theorem dX3_copy_88 : decode cX3_copy 88 = .ok (.aload_n 0, 1) := dk_42 (dk_at dksX3_copy_3 17 rfl rfl)
theorem dX3_copy_89 : decode cX3_copy 89 = .ok (.getfield 32, 3) := dk_180 0 32 (dk_at dksX3_copy_3 18 rfl rfl)
theorem dX3_copy_92 : decode cX3_copy 92 = .ok (.invokevirtual 201, 3) := dk_182 0 201 (dk_at dksX3_copy_3 21 rfl rfl)
theorem dX3_copy_95 : decode cX3_copy 95 = .ok (.aload_n 0, 1) := dk_42 (dk_at dksX3_copy_4 0 rfl rfl)
theorem dX3_copy_96 : decode cX3_copy 96 = .ok (.getfield 32, 3) := dk_180 0 32 (dk_at dksX3_copy_4 1 rfl rfl)
theorem dX3_copy_99 : decode cX3_copy 99 = .ok (.aload_n 1, 1) := dk_43 (dk_at dksX3_copy_4 4 rfl rfl)
theorem dX3_copy_100 : decode cX3_copy 100 = .ok (.getfield 32, 3) := dk_180 0 32 (dk_at dksX3_copy_4 5 rfl rfl)
theorem dX3_copy_103 : decode cX3_copy 103 = .ok (.invokevirtual 204, 3) := dk_182 0 204 (dk_at dksX3_copy_4 8 rfl rfl)
theorem dX3_copy_106 : decode cX3_copy 106 = .ok (.pop, 1) := dk_87 (dk_at dksX3_copy_4 11 rfl rfl)
theorem dX3_copy_107 : decode cX3_copy 107 = .ok (.aload_n 0, 1) := dk_42 (dk_at dksX3_copy_4 12 rfl rfl)
theorem dX3_copy_108 : decode cX3_copy 108 = .ok (.getfield 35, 3) := dk_180 0 35 (dk_at dksX3_copy_4 13 rfl rfl)
theorem dX3_copy_111 : decode cX3_copy 111 = .ok (.invokevirtual 201, 3) := dk_182 0 201 (dk_at dksX3_copy_4 16 rfl rfl)
theorem dX3_copy_114 : decode cX3_copy 114 = .ok (.aload_n 0, 1) := dk_42 (dk_at dksX3_copy_4 19 rfl rfl)
theorem dX3_copy_115 : decode cX3_copy 115 = .ok (.getfield 35, 3) := dk_180 0 35 (dk_at dksX3_copy_4 20 rfl rfl)
theorem dX3_copy_118 : decode cX3_copy 118 = .ok (.aload_n 1, 1) := dk_43 (dk_at dksX3_copy_4 23 rfl rfl)
theorem dX3_copy_119 : decode cX3_copy 119 = .ok (.getfield 35, 3) := dk_180 0 35 (dk_at dksX3_copy_5 0 rfl rfl)
theorem dX3_copy_122 : decode cX3_copy 122 = .ok (.invokevirtual 204, 3) := dk_182 0 204 (dk_at dksX3_copy_5 3 rfl rfl)
theorem dX3_copy_125 : decode cX3_copy 125 = .ok (.pop, 1) := dk_87 (dk_at dksX3_copy_5 6 rfl rfl)
theorem dX3_copy_126 : decode cX3_copy 126 = .ok (.aload_n 0, 1) := dk_42 (dk_at dksX3_copy_5 7 rfl rfl)
theorem dX3_copy_127 : decode cX3_copy 127 = .ok (.areturn, 1) := dk_176 (dk_at dksX3_copy_5 8 rfl rfl)
abbrev cX3_play : ByteArray := prog_11_method_26_code
def yX3_play : MethodName := ⟨RX3, "play", "(I)V"⟩
def dkwX3_play_3 : List UInt8 := [181, 0, 174, 167, 255, 198, 42, 89, 180, 0, 177, 4, 96, 181, 0, 177, 132, 2, 1, 167, 255, 169, 177]
abbrev dktX3_play_3 : List UInt8 := dkwX3_play_3 ++ []
def dkwX3_play_2 : List UInt8 := [153, 0, 27, 25, 4, 180, 0, 164, 42, 25, 4, 182, 0, 168, 153, 0, 13, 42, 89, 180, 0, 174, 4, 96]
abbrev dktX3_play_2 : List UInt8 := dkwX3_play_2 ++ dktX3_play_3
def dkwX3_play_1 : List UInt8 := [45, 185, 0, 148, 1, 0, 192, 0, 152, 58, 4, 25, 4, 180, 0, 154, 42, 185, 0, 158, 2, 0]
abbrev dktX3_play_1 : List UInt8 := dkwX3_play_1 ++ dktX3_play_2
def dkwX3_play_0 : List UInt8 := [3, 61, 28, 27, 162, 0, 88, 42, 180, 0, 25, 182, 0, 139, 78, 45, 185, 0, 143, 1, 0, 153, 0, 55]
abbrev dktX3_play_0 : List UInt8 := dkwX3_play_0 ++ dktX3_play_1
theorem dksX3_play_0 : cX3_play.data.toList.drop 0 = dktX3_play_0 := by decide +kernel
theorem dksX3_play_1 : cX3_play.data.toList.drop 24 = dktX3_play_1 := dk_seg dksX3_play_0 24 rfl rfl
theorem dksX3_play_2 : cX3_play.data.toList.drop 46 = dktX3_play_2 := dk_seg dksX3_play_1 22 rfl rfl
theorem dksX3_play_3 : cX3_play.data.toList.drop 70 = dktX3_play_3 := dk_seg dksX3_play_2 24 rfl rfl
theorem dX3_play_0 : decode cX3_play 0 = .ok (.iconst 0, 1) := dk_3 (dk_at dksX3_play_0 0 rfl rfl)
theorem dX3_play_1 : decode cX3_play 1 = .ok (.istore_n 2, 1) := dk_61 (dk_at dksX3_play_0 1 rfl rfl)
theorem dX3_play_2 : decode cX3_play 2 = .ok (.iload_n 2, 1) := dk_28 (dk_at dksX3_play_0 2 rfl rfl)
theorem dX3_play_3 : decode cX3_play 3 = .ok (.iload_n 1, 1) := dk_27 (dk_at dksX3_play_0 3 rfl rfl)
theorem dX3_play_4 : decode cX3_play 4 = .ok (.if_icmp .ge 88, 3) := dk_162 0 88 (dk_at dksX3_play_0 4 rfl rfl)
theorem dX3_play_7 : decode cX3_play 7 = .ok (.aload_n 0, 1) := dk_42 (dk_at dksX3_play_0 7 rfl rfl)
theorem dX3_play_8 : decode cX3_play 8 = .ok (.getfield 25, 3) := dk_180 0 25 (dk_at dksX3_play_0 8 rfl rfl)
theorem dX3_play_11 : decode cX3_play 11 = .ok (.invokevirtual 139, 3) := dk_182 0 139 (dk_at dksX3_play_0 11 rfl rfl)
theorem dX3_play_14 : decode cX3_play 14 = .ok (.astore_n 3, 1) := dk_78 (dk_at dksX3_play_0 14 rfl rfl)
theorem dX3_play_15 : decode cX3_play 15 = .ok (.aload_n 3, 1) := dk_45 (dk_at dksX3_play_0 15 rfl rfl)
theorem dX3_play_16 : decode cX3_play 16 = .ok (.invokeinterface 143 1, 5) := by decide +kernel
theorem dX3_play_21 : decode cX3_play 21 = .ok (.ifCond .eq 55, 3) := dk_153 0 55 (dk_at dksX3_play_0 21 rfl rfl)
theorem dX3_play_24 : decode cX3_play 24 = .ok (.aload_n 3, 1) := dk_45 (dk_at dksX3_play_1 0 rfl rfl)
theorem dX3_play_25 : decode cX3_play 25 = .ok (.invokeinterface 148 1, 5) := by decide +kernel
theorem dX3_play_30 : decode cX3_play 30 = .ok (.checkcast 152, 3) := dk_192 0 152 (dk_at dksX3_play_1 6 rfl rfl)
theorem dX3_play_33 : decode cX3_play 33 = .ok (.astore 4, 2) := dk_58 4 (dk_at dksX3_play_1 9 rfl rfl)
theorem dX3_play_35 : decode cX3_play 35 = .ok (.aload 4, 2) := dk_25 4 (dk_at dksX3_play_1 11 rfl rfl)
theorem dX3_play_37 : decode cX3_play 37 = .ok (.getfield 154, 3) := dk_180 0 154 (dk_at dksX3_play_1 13 rfl rfl)
theorem dX3_play_40 : decode cX3_play 40 = .ok (.aload_n 0, 1) := dk_42 (dk_at dksX3_play_1 16 rfl rfl)
theorem dX3_play_41 : decode cX3_play 41 = .ok (.invokeinterface 158 2, 5) := by decide +kernel
theorem dX3_play_46 : decode cX3_play 46 = .ok (.ifCond .eq 27, 3) := dk_153 0 27 (dk_at dksX3_play_2 0 rfl rfl)
theorem dX3_play_49 : decode cX3_play 49 = .ok (.aload 4, 2) := dk_25 4 (dk_at dksX3_play_2 3 rfl rfl)
theorem dX3_play_51 : decode cX3_play 51 = .ok (.getfield 164, 3) := dk_180 0 164 (dk_at dksX3_play_2 5 rfl rfl)
theorem dX3_play_54 : decode cX3_play 54 = .ok (.aload_n 0, 1) := dk_42 (dk_at dksX3_play_2 8 rfl rfl)
theorem dX3_play_55 : decode cX3_play 55 = .ok (.aload 4, 2) := dk_25 4 (dk_at dksX3_play_2 9 rfl rfl)
theorem dX3_play_57 : decode cX3_play 57 = .ok (.invokevirtual 168, 3) := dk_182 0 168 (dk_at dksX3_play_2 11 rfl rfl)
theorem dX3_play_60 : decode cX3_play 60 = .ok (.ifCond .eq 13, 3) := dk_153 0 13 (dk_at dksX3_play_2 14 rfl rfl)
theorem dX3_play_63 : decode cX3_play 63 = .ok (.aload_n 0, 1) := dk_42 (dk_at dksX3_play_2 17 rfl rfl)
theorem dX3_play_64 : decode cX3_play 64 = .ok (.dup, 1) := dk_89 (dk_at dksX3_play_2 18 rfl rfl)
theorem dX3_play_65 : decode cX3_play 65 = .ok (.getfield 174, 3) := dk_180 0 174 (dk_at dksX3_play_2 19 rfl rfl)
theorem dX3_play_68 : decode cX3_play 68 = .ok (.iconst 1, 1) := dk_4 (dk_at dksX3_play_2 22 rfl rfl)
theorem dX3_play_69 : decode cX3_play 69 = .ok (.iadd, 1) := dk_96 (dk_at dksX3_play_2 23 rfl rfl)
theorem dX3_play_70 : decode cX3_play 70 = .ok (.putfield 174, 3) := dk_181 0 174 (dk_at dksX3_play_3 0 rfl rfl)
theorem dX3_play_73 : decode cX3_play 73 = .ok (.goto (-58), 3) := dk_167 255 198 (dk_at dksX3_play_3 3 rfl rfl)
theorem dX3_play_76 : decode cX3_play 76 = .ok (.aload_n 0, 1) := dk_42 (dk_at dksX3_play_3 6 rfl rfl)
theorem dX3_play_77 : decode cX3_play 77 = .ok (.dup, 1) := dk_89 (dk_at dksX3_play_3 7 rfl rfl)
theorem dX3_play_78 : decode cX3_play 78 = .ok (.getfield 177, 3) := dk_180 0 177 (dk_at dksX3_play_3 8 rfl rfl)
theorem dX3_play_81 : decode cX3_play 81 = .ok (.iconst 1, 1) := dk_4 (dk_at dksX3_play_3 11 rfl rfl)
theorem dX3_play_82 : decode cX3_play 82 = .ok (.iadd, 1) := dk_96 (dk_at dksX3_play_3 12 rfl rfl)
theorem dX3_play_83 : decode cX3_play 83 = .ok (.putfield 177, 3) := dk_181 0 177 (dk_at dksX3_play_3 13 rfl rfl)
theorem dX3_play_86 : decode cX3_play 86 = .ok (.iinc 2 1, 3) := dk_132 2 1 (dk_at dksX3_play_3 16 rfl rfl)
theorem dX3_play_89 : decode cX3_play 89 = .ok (.goto (-87), 3) := dk_167 255 169 (dk_at dksX3_play_3 19 rfl rfl)
theorem dX3_play_92 : decode cX3_play 92 = .ok (.return_, 1) := dk_177 (dk_at dksX3_play_3 22 rfl rfl)
abbrev cX3_ways : ByteArray := prog_11_method_12_code
def yX3_ways : MethodName := ⟨RX3, "ways", "(I)I"⟩
def dkwX3_ways_2 : List UInt8 := [132, 3, 1, 167, 255, 210, 28, 172]
abbrev dktX3_ways_2 : List UInt8 := dkwX3_ways_2 ++ []
def dkwX3_ways_1 : List UInt8 := [27, 29, 21, 4, 182, 0, 88, 153, 0, 7, 4, 167, 0, 4, 3, 96, 61, 132, 4, 1, 167, 255, 227]
abbrev dktX3_ways_1 : List UInt8 := dkwX3_ways_1 ++ dktX3_ways_2
def dkwX3_ways_0 : List UInt8 := [3, 61, 3, 62, 29, 42, 182, 0, 62, 162, 0, 44, 3, 54, 4, 21, 4, 16, 6, 162, 0, 28, 28, 42]
abbrev dktX3_ways_0 : List UInt8 := dkwX3_ways_0 ++ dktX3_ways_1
theorem dksX3_ways_0 : cX3_ways.data.toList.drop 0 = dktX3_ways_0 := by decide +kernel
theorem dksX3_ways_1 : cX3_ways.data.toList.drop 24 = dktX3_ways_1 := dk_seg dksX3_ways_0 24 rfl rfl
theorem dksX3_ways_2 : cX3_ways.data.toList.drop 47 = dktX3_ways_2 := dk_seg dksX3_ways_1 23 rfl rfl
theorem dX3_ways_0 : decode cX3_ways 0 = .ok (.iconst 0, 1) := dk_3 (dk_at dksX3_ways_0 0 rfl rfl)
theorem dX3_ways_1 : decode cX3_ways 1 = .ok (.istore_n 2, 1) := dk_61 (dk_at dksX3_ways_0 1 rfl rfl)
theorem dX3_ways_2 : decode cX3_ways 2 = .ok (.iconst 0, 1) := dk_3 (dk_at dksX3_ways_0 2 rfl rfl)
theorem dX3_ways_3 : decode cX3_ways 3 = .ok (.istore_n 3, 1) := dk_62 (dk_at dksX3_ways_0 3 rfl rfl)
theorem dX3_ways_4 : decode cX3_ways 4 = .ok (.iload_n 3, 1) := dk_29 (dk_at dksX3_ways_0 4 rfl rfl)
theorem dX3_ways_5 : decode cX3_ways 5 = .ok (.aload_n 0, 1) := dk_42 (dk_at dksX3_ways_0 5 rfl rfl)
theorem dX3_ways_6 : decode cX3_ways 6 = .ok (.invokevirtual 62, 3) := dk_182 0 62 (dk_at dksX3_ways_0 6 rfl rfl)
theorem dX3_ways_9 : decode cX3_ways 9 = .ok (.if_icmp .ge 44, 3) := dk_162 0 44 (dk_at dksX3_ways_0 9 rfl rfl)
theorem dX3_ways_12 : decode cX3_ways 12 = .ok (.iconst 0, 1) := dk_3 (dk_at dksX3_ways_0 12 rfl rfl)
theorem dX3_ways_13 : decode cX3_ways 13 = .ok (.istore 4, 2) := dk_54 4 (dk_at dksX3_ways_0 13 rfl rfl)
theorem dX3_ways_15 : decode cX3_ways 15 = .ok (.iload 4, 2) := dk_21 4 (dk_at dksX3_ways_0 15 rfl rfl)
theorem dX3_ways_17 : decode cX3_ways 17 = .ok (.bipush 6, 2) := dk_16 6 (dk_at dksX3_ways_0 17 rfl rfl)
theorem dX3_ways_19 : decode cX3_ways 19 = .ok (.if_icmp .ge 28, 3) := dk_162 0 28 (dk_at dksX3_ways_0 19 rfl rfl)
theorem dX3_ways_22 : decode cX3_ways 22 = .ok (.iload_n 2, 1) := dk_28 (dk_at dksX3_ways_0 22 rfl rfl)
theorem dX3_ways_23 : decode cX3_ways 23 = .ok (.aload_n 0, 1) := dk_42 (dk_at dksX3_ways_0 23 rfl rfl)
theorem dX3_ways_24 : decode cX3_ways 24 = .ok (.iload_n 1, 1) := dk_27 (dk_at dksX3_ways_1 0 rfl rfl)
theorem dX3_ways_25 : decode cX3_ways 25 = .ok (.iload_n 3, 1) := dk_29 (dk_at dksX3_ways_1 1 rfl rfl)
theorem dX3_ways_26 : decode cX3_ways 26 = .ok (.iload 4, 2) := dk_21 4 (dk_at dksX3_ways_1 2 rfl rfl)
theorem dX3_ways_28 : decode cX3_ways 28 = .ok (.invokevirtual 88, 3) := dk_182 0 88 (dk_at dksX3_ways_1 4 rfl rfl)
theorem dX3_ways_31 : decode cX3_ways 31 = .ok (.ifCond .eq 7, 3) := dk_153 0 7 (dk_at dksX3_ways_1 7 rfl rfl)
theorem dX3_ways_34 : decode cX3_ways 34 = .ok (.iconst 1, 1) := dk_4 (dk_at dksX3_ways_1 10 rfl rfl)
theorem dX3_ways_35 : decode cX3_ways 35 = .ok (.goto 4, 3) := dk_167 0 4 (dk_at dksX3_ways_1 11 rfl rfl)
theorem dX3_ways_38 : decode cX3_ways 38 = .ok (.iconst 0, 1) := dk_3 (dk_at dksX3_ways_1 14 rfl rfl)
theorem dX3_ways_39 : decode cX3_ways 39 = .ok (.iadd, 1) := dk_96 (dk_at dksX3_ways_1 15 rfl rfl)
theorem dX3_ways_40 : decode cX3_ways 40 = .ok (.istore_n 2, 1) := dk_61 (dk_at dksX3_ways_1 16 rfl rfl)
theorem dX3_ways_41 : decode cX3_ways 41 = .ok (.iinc 4 1, 3) := dk_132 4 1 (dk_at dksX3_ways_1 17 rfl rfl)
theorem dX3_ways_44 : decode cX3_ways 44 = .ok (.goto (-29), 3) := dk_167 255 227 (dk_at dksX3_ways_1 20 rfl rfl)
theorem dX3_ways_47 : decode cX3_ways 47 = .ok (.iinc 3 1, 3) := dk_132 3 1 (dk_at dksX3_ways_2 0 rfl rfl)
theorem dX3_ways_50 : decode cX3_ways 50 = .ok (.goto (-46), 3) := dk_167 255 210 (dk_at dksX3_ways_2 3 rfl rfl)
theorem dX3_ways_53 : decode cX3_ways 53 = .ok (.iload_n 2, 1) := dk_28 (dk_at dksX3_ways_2 6 rfl rfl)
theorem dX3_ways_54 : decode cX3_ways 54 = .ok (.ireturn, 1) := dk_172 (dk_at dksX3_ways_2 7 rfl rfl)
abbrev cX3_fits : ByteArray := prog_11_method_11_code
def yX3_fits : MethodName := ⟨RX3, "fits", "(III)Z"⟩
def dkwX3_fits_2 : List UInt8 := [3, 172]
abbrev dktX3_fits_2 : List UInt8 := dkwX3_fits_2 ++ []
def dkwX3_fits_1 : List UInt8 := [42, 182, 0, 81, 158, 0, 5, 3, 172, 42, 27, 28, 29, 182, 0, 84, 2, 160, 0, 7, 4, 167, 0, 4]
abbrev dktX3_fits_1 : List UInt8 := dkwX3_fits_1 ++ dktX3_fits_2
def dkwX3_fits_0 : List UInt8 := [42, 27, 182, 0, 74, 154, 0, 26, 42, 28, 182, 0, 64, 154, 0, 18, 42, 28, 182, 0, 77, 154, 0, 12]
abbrev dktX3_fits_0 : List UInt8 := dkwX3_fits_0 ++ dktX3_fits_1
theorem dksX3_fits_0 : cX3_fits.data.toList.drop 0 = dktX3_fits_0 := by decide +kernel
theorem dksX3_fits_1 : cX3_fits.data.toList.drop 24 = dktX3_fits_1 := dk_seg dksX3_fits_0 24 rfl rfl
theorem dksX3_fits_2 : cX3_fits.data.toList.drop 48 = dktX3_fits_2 := dk_seg dksX3_fits_1 24 rfl rfl
theorem dX3_fits_0 : decode cX3_fits 0 = .ok (.aload_n 0, 1) := dk_42 (dk_at dksX3_fits_0 0 rfl rfl)
theorem dX3_fits_1 : decode cX3_fits 1 = .ok (.iload_n 1, 1) := dk_27 (dk_at dksX3_fits_0 1 rfl rfl)
theorem dX3_fits_2 : decode cX3_fits 2 = .ok (.invokevirtual 74, 3) := dk_182 0 74 (dk_at dksX3_fits_0 2 rfl rfl)
theorem dX3_fits_5 : decode cX3_fits 5 = .ok (.ifCond .ne 26, 3) := dk_154 0 26 (dk_at dksX3_fits_0 5 rfl rfl)
theorem dX3_fits_8 : decode cX3_fits 8 = .ok (.aload_n 0, 1) := dk_42 (dk_at dksX3_fits_0 8 rfl rfl)
theorem dX3_fits_9 : decode cX3_fits 9 = .ok (.iload_n 2, 1) := dk_28 (dk_at dksX3_fits_0 9 rfl rfl)
theorem dX3_fits_10 : decode cX3_fits 10 = .ok (.invokevirtual 64, 3) := dk_182 0 64 (dk_at dksX3_fits_0 10 rfl rfl)
theorem dX3_fits_13 : decode cX3_fits 13 = .ok (.ifCond .ne 18, 3) := dk_154 0 18 (dk_at dksX3_fits_0 13 rfl rfl)
theorem dX3_fits_16 : decode cX3_fits 16 = .ok (.aload_n 0, 1) := dk_42 (dk_at dksX3_fits_0 16 rfl rfl)
theorem dX3_fits_17 : decode cX3_fits 17 = .ok (.iload_n 2, 1) := dk_28 (dk_at dksX3_fits_0 17 rfl rfl)
theorem dX3_fits_18 : decode cX3_fits 18 = .ok (.invokevirtual 77, 3) := dk_182 0 77 (dk_at dksX3_fits_0 18 rfl rfl)
theorem dX3_fits_21 : decode cX3_fits 21 = .ok (.ifCond .ne 12, 3) := dk_154 0 12 (dk_at dksX3_fits_0 21 rfl rfl)
theorem dX3_fits_24 : decode cX3_fits 24 = .ok (.aload_n 0, 1) := dk_42 (dk_at dksX3_fits_1 0 rfl rfl)
theorem dX3_fits_25 : decode cX3_fits 25 = .ok (.invokevirtual 81, 3) := dk_182 0 81 (dk_at dksX3_fits_1 1 rfl rfl)
theorem dX3_fits_28 : decode cX3_fits 28 = .ok (.ifCond .le 5, 3) := dk_158 0 5 (dk_at dksX3_fits_1 4 rfl rfl)
theorem dX3_fits_31 : decode cX3_fits 31 = .ok (.iconst 0, 1) := dk_3 (dk_at dksX3_fits_1 7 rfl rfl)
theorem dX3_fits_32 : decode cX3_fits 32 = .ok (.ireturn, 1) := dk_172 (dk_at dksX3_fits_1 8 rfl rfl)
theorem dX3_fits_33 : decode cX3_fits 33 = .ok (.aload_n 0, 1) := dk_42 (dk_at dksX3_fits_1 9 rfl rfl)
theorem dX3_fits_34 : decode cX3_fits 34 = .ok (.iload_n 1, 1) := dk_27 (dk_at dksX3_fits_1 10 rfl rfl)
theorem dX3_fits_35 : decode cX3_fits 35 = .ok (.iload_n 2, 1) := dk_28 (dk_at dksX3_fits_1 11 rfl rfl)
theorem dX3_fits_36 : decode cX3_fits 36 = .ok (.iload_n 3, 1) := dk_29 (dk_at dksX3_fits_1 12 rfl rfl)
theorem dX3_fits_37 : decode cX3_fits 37 = .ok (.invokevirtual 84, 3) := dk_182 0 84 (dk_at dksX3_fits_1 13 rfl rfl)
theorem dX3_fits_40 : decode cX3_fits 40 = .ok (.iconst (-1), 1) := dk_2 (dk_at dksX3_fits_1 16 rfl rfl)
theorem dX3_fits_41 : decode cX3_fits 41 = .ok (.if_icmp .ne 7, 3) := dk_160 0 7 (dk_at dksX3_fits_1 17 rfl rfl)
theorem dX3_fits_44 : decode cX3_fits 44 = .ok (.iconst 1, 1) := dk_4 (dk_at dksX3_fits_1 20 rfl rfl)
theorem dX3_fits_45 : decode cX3_fits 45 = .ok (.goto 4, 3) := dk_167 0 4 (dk_at dksX3_fits_1 21 rfl rfl)
theorem dX3_fits_48 : decode cX3_fits 48 = .ok (.iconst 0, 1) := dk_3 (dk_at dksX3_fits_2 0 rfl rfl)
theorem dX3_fits_49 : decode cX3_fits 49 = .ok (.ireturn, 1) := dk_172 (dk_at dksX3_fits_2 1 rfl rfl)
abbrev cX3_isPlaced : ByteArray := prog_11_method_7_code
def yX3_isPlaced : MethodName := ⟨RX3, "isPlaced", "(I)Z"⟩
def dkwX3_isPlaced_0 : List UInt8 := [42, 180, 0, 32, 27, 182, 0, 48, 192, 0, 43, 182, 0, 54, 2, 159, 0, 7, 4, 167, 0, 4, 3, 172]
abbrev dktX3_isPlaced_0 : List UInt8 := dkwX3_isPlaced_0 ++ []
theorem dksX3_isPlaced_0 : cX3_isPlaced.data.toList.drop 0 = dktX3_isPlaced_0 := by decide +kernel
theorem dX3_isPlaced_0 : decode cX3_isPlaced 0 = .ok (.aload_n 0, 1) := dk_42 (dk_at dksX3_isPlaced_0 0 rfl rfl)
theorem dX3_isPlaced_1 : decode cX3_isPlaced 1 = .ok (.getfield 32, 3) := dk_180 0 32 (dk_at dksX3_isPlaced_0 1 rfl rfl)
theorem dX3_isPlaced_4 : decode cX3_isPlaced 4 = .ok (.iload_n 1, 1) := dk_27 (dk_at dksX3_isPlaced_0 4 rfl rfl)
theorem dX3_isPlaced_5 : decode cX3_isPlaced 5 = .ok (.invokevirtual 48, 3) := dk_182 0 48 (dk_at dksX3_isPlaced_0 5 rfl rfl)
theorem dX3_isPlaced_8 : decode cX3_isPlaced 8 = .ok (.checkcast 43, 3) := dk_192 0 43 (dk_at dksX3_isPlaced_0 8 rfl rfl)
theorem dX3_isPlaced_11 : decode cX3_isPlaced 11 = .ok (.invokevirtual 54, 3) := dk_182 0 54 (dk_at dksX3_isPlaced_0 11 rfl rfl)
theorem dX3_isPlaced_14 : decode cX3_isPlaced 14 = .ok (.iconst (-1), 1) := dk_2 (dk_at dksX3_isPlaced_0 14 rfl rfl)
theorem dX3_isPlaced_15 : decode cX3_isPlaced 15 = .ok (.if_icmp .eq 7, 3) := dk_159 0 7 (dk_at dksX3_isPlaced_0 15 rfl rfl)
theorem dX3_isPlaced_18 : decode cX3_isPlaced 18 = .ok (.iconst 1, 1) := dk_4 (dk_at dksX3_isPlaced_0 18 rfl rfl)
theorem dX3_isPlaced_19 : decode cX3_isPlaced 19 = .ok (.goto 4, 3) := dk_167 0 4 (dk_at dksX3_isPlaced_0 19 rfl rfl)
theorem dX3_isPlaced_22 : decode cX3_isPlaced 22 = .ok (.iconst 0, 1) := dk_3 (dk_at dksX3_isPlaced_0 22 rfl rfl)
theorem dX3_isPlaced_23 : decode cX3_isPlaced 23 = .ok (.ireturn, 1) := dk_172 (dk_at dksX3_isPlaced_0 23 rfl rfl)
abbrev cX3_against : ByteArray := prog_11_method_10_code
def yX3_against : MethodName := ⟨RX3, "against", "(III)I"⟩
def dkwX3_against_3 : List UInt8 := [2, 172]
abbrev dktX3_against_3 : List UInt8 := dkwX3_against_3 ++ []
def dkwX3_against_2 : List UInt8 := [182, 0, 48, 192, 0, 52, 21, 4, 29, 182, 0, 58, 159, 0, 6, 21, 4, 172, 132, 4, 1, 167, 255, 192]
abbrev dktX3_against_2 : List UInt8 := dkwX3_against_2 ++ dktX3_against_3
def dkwX3_against_1 : List UInt8 := [182, 0, 64, 153, 0, 39, 42, 21, 5, 21, 4, 6, 96, 16, 6, 112, 182, 0, 71, 42, 180, 0, 21, 27]
abbrev dktX3_against_1 : List UInt8 := dkwX3_against_1 ++ dktX3_against_2
def dkwX3_against_0 : List UInt8 := [3, 54, 4, 21, 4, 16, 6, 162, 0, 63, 42, 28, 21, 4, 182, 0, 68, 54, 5, 42, 21, 5]
abbrev dktX3_against_0 : List UInt8 := dkwX3_against_0 ++ dktX3_against_1
theorem dksX3_against_0 : cX3_against.data.toList.drop 0 = dktX3_against_0 := by decide +kernel
theorem dksX3_against_1 : cX3_against.data.toList.drop 22 = dktX3_against_1 := dk_seg dksX3_against_0 22 rfl rfl
theorem dksX3_against_2 : cX3_against.data.toList.drop 46 = dktX3_against_2 := dk_seg dksX3_against_1 24 rfl rfl
theorem dksX3_against_3 : cX3_against.data.toList.drop 70 = dktX3_against_3 := dk_seg dksX3_against_2 24 rfl rfl
theorem dX3_against_0 : decode cX3_against 0 = .ok (.iconst 0, 1) := dk_3 (dk_at dksX3_against_0 0 rfl rfl)
theorem dX3_against_1 : decode cX3_against 1 = .ok (.istore 4, 2) := dk_54 4 (dk_at dksX3_against_0 1 rfl rfl)
theorem dX3_against_3 : decode cX3_against 3 = .ok (.iload 4, 2) := dk_21 4 (dk_at dksX3_against_0 3 rfl rfl)
theorem dX3_against_5 : decode cX3_against 5 = .ok (.bipush 6, 2) := dk_16 6 (dk_at dksX3_against_0 5 rfl rfl)
theorem dX3_against_7 : decode cX3_against 7 = .ok (.if_icmp .ge 63, 3) := dk_162 0 63 (dk_at dksX3_against_0 7 rfl rfl)
theorem dX3_against_10 : decode cX3_against 10 = .ok (.aload_n 0, 1) := dk_42 (dk_at dksX3_against_0 10 rfl rfl)
theorem dX3_against_11 : decode cX3_against 11 = .ok (.iload_n 2, 1) := dk_28 (dk_at dksX3_against_0 11 rfl rfl)
theorem dX3_against_12 : decode cX3_against 12 = .ok (.iload 4, 2) := dk_21 4 (dk_at dksX3_against_0 12 rfl rfl)
theorem dX3_against_14 : decode cX3_against 14 = .ok (.invokevirtual 68, 3) := dk_182 0 68 (dk_at dksX3_against_0 14 rfl rfl)
theorem dX3_against_17 : decode cX3_against 17 = .ok (.istore 5, 2) := dk_54 5 (dk_at dksX3_against_0 17 rfl rfl)
theorem dX3_against_19 : decode cX3_against 19 = .ok (.aload_n 0, 1) := dk_42 (dk_at dksX3_against_0 19 rfl rfl)
theorem dX3_against_20 : decode cX3_against 20 = .ok (.iload 5, 2) := dk_21 5 (dk_at dksX3_against_0 20 rfl rfl)
theorem dX3_against_22 : decode cX3_against 22 = .ok (.invokevirtual 64, 3) := dk_182 0 64 (dk_at dksX3_against_1 0 rfl rfl)
theorem dX3_against_25 : decode cX3_against 25 = .ok (.ifCond .eq 39, 3) := dk_153 0 39 (dk_at dksX3_against_1 3 rfl rfl)
theorem dX3_against_28 : decode cX3_against 28 = .ok (.aload_n 0, 1) := dk_42 (dk_at dksX3_against_1 6 rfl rfl)
theorem dX3_against_29 : decode cX3_against 29 = .ok (.iload 5, 2) := dk_21 5 (dk_at dksX3_against_1 7 rfl rfl)
theorem dX3_against_31 : decode cX3_against 31 = .ok (.iload 4, 2) := dk_21 4 (dk_at dksX3_against_1 9 rfl rfl)
theorem dX3_against_33 : decode cX3_against 33 = .ok (.iconst 3, 1) := dk_6 (dk_at dksX3_against_1 11 rfl rfl)
theorem dX3_against_34 : decode cX3_against 34 = .ok (.iadd, 1) := dk_96 (dk_at dksX3_against_1 12 rfl rfl)
theorem dX3_against_35 : decode cX3_against 35 = .ok (.bipush 6, 2) := dk_16 6 (dk_at dksX3_against_1 13 rfl rfl)
theorem dX3_against_37 : decode cX3_against 37 = .ok (.irem, 1) := dk_112 (dk_at dksX3_against_1 15 rfl rfl)
theorem dX3_against_38 : decode cX3_against 38 = .ok (.invokevirtual 71, 3) := dk_182 0 71 (dk_at dksX3_against_1 16 rfl rfl)
theorem dX3_against_41 : decode cX3_against 41 = .ok (.aload_n 0, 1) := dk_42 (dk_at dksX3_against_1 19 rfl rfl)
theorem dX3_against_42 : decode cX3_against 42 = .ok (.getfield 21, 3) := dk_180 0 21 (dk_at dksX3_against_1 20 rfl rfl)
theorem dX3_against_45 : decode cX3_against 45 = .ok (.iload_n 1, 1) := dk_27 (dk_at dksX3_against_1 23 rfl rfl)
theorem dX3_against_46 : decode cX3_against 46 = .ok (.invokevirtual 48, 3) := dk_182 0 48 (dk_at dksX3_against_2 0 rfl rfl)
theorem dX3_against_49 : decode cX3_against 49 = .ok (.checkcast 52, 3) := dk_192 0 52 (dk_at dksX3_against_2 3 rfl rfl)
theorem dX3_against_52 : decode cX3_against 52 = .ok (.iload 4, 2) := dk_21 4 (dk_at dksX3_against_2 6 rfl rfl)
theorem dX3_against_54 : decode cX3_against 54 = .ok (.iload_n 3, 1) := dk_29 (dk_at dksX3_against_2 8 rfl rfl)
theorem dX3_against_55 : decode cX3_against 55 = .ok (.invokevirtual 58, 3) := dk_182 0 58 (dk_at dksX3_against_2 9 rfl rfl)
theorem dX3_against_58 : decode cX3_against 58 = .ok (.if_icmp .eq 6, 3) := dk_159 0 6 (dk_at dksX3_against_2 12 rfl rfl)
theorem dX3_against_61 : decode cX3_against 61 = .ok (.iload 4, 2) := dk_21 4 (dk_at dksX3_against_2 15 rfl rfl)
theorem dX3_against_63 : decode cX3_against 63 = .ok (.ireturn, 1) := dk_172 (dk_at dksX3_against_2 17 rfl rfl)
theorem dX3_against_64 : decode cX3_against 64 = .ok (.iinc 4 1, 3) := dk_132 4 1 (dk_at dksX3_against_2 18 rfl rfl)
theorem dX3_against_67 : decode cX3_against 67 = .ok (.goto (-64), 3) := dk_167 255 192 (dk_at dksX3_against_2 21 rfl rfl)
theorem dX3_against_70 : decode cX3_against 70 = .ok (.iconst (-1), 1) := dk_2 (dk_at dksX3_against_3 0 rfl rfl)
theorem dX3_against_71 : decode cX3_against 71 = .ok (.ireturn, 1) := dk_172 (dk_at dksX3_against_3 1 rfl rfl)
abbrev cX3_put : ByteArray := prog_11_method_16_code
def yX3_put : MethodName := ⟨RX3, "put", "(III)Z"⟩
def dkwX3_put_1 : List UInt8 := [180, 0, 35, 27, 29, 184, 0, 42, 182, 0, 114, 87, 4, 172]
abbrev dktX3_put_1 : List UInt8 := dkwX3_put_1 ++ []
def dkwX3_put_0 : List UInt8 := [42, 180, 0, 28, 28, 27, 4, 96, 79, 42, 180, 0, 32, 27, 28, 184, 0, 42, 182, 0, 114, 87, 42]
abbrev dktX3_put_0 : List UInt8 := dkwX3_put_0 ++ dktX3_put_1
theorem dksX3_put_0 : cX3_put.data.toList.drop 0 = dktX3_put_0 := by decide +kernel
theorem dksX3_put_1 : cX3_put.data.toList.drop 23 = dktX3_put_1 := dk_seg dksX3_put_0 23 rfl rfl
theorem dX3_put_0 : decode cX3_put 0 = .ok (.aload_n 0, 1) := dk_42 (dk_at dksX3_put_0 0 rfl rfl)
theorem dX3_put_1 : decode cX3_put 1 = .ok (.getfield 28, 3) := dk_180 0 28 (dk_at dksX3_put_0 1 rfl rfl)
theorem dX3_put_4 : decode cX3_put 4 = .ok (.iload_n 2, 1) := dk_28 (dk_at dksX3_put_0 4 rfl rfl)
theorem dX3_put_5 : decode cX3_put 5 = .ok (.iload_n 1, 1) := dk_27 (dk_at dksX3_put_0 5 rfl rfl)
theorem dX3_put_6 : decode cX3_put 6 = .ok (.iconst 1, 1) := dk_4 (dk_at dksX3_put_0 6 rfl rfl)
theorem dX3_put_7 : decode cX3_put 7 = .ok (.iadd, 1) := dk_96 (dk_at dksX3_put_0 7 rfl rfl)
theorem dX3_put_8 : decode cX3_put 8 = .ok (.iastore, 1) := dk_79 (dk_at dksX3_put_0 8 rfl rfl)
theorem dX3_put_9 : decode cX3_put 9 = .ok (.aload_n 0, 1) := dk_42 (dk_at dksX3_put_0 9 rfl rfl)
theorem dX3_put_10 : decode cX3_put 10 = .ok (.getfield 32, 3) := dk_180 0 32 (dk_at dksX3_put_0 10 rfl rfl)
theorem dX3_put_13 : decode cX3_put 13 = .ok (.iload_n 1, 1) := dk_27 (dk_at dksX3_put_0 13 rfl rfl)
theorem dX3_put_14 : decode cX3_put 14 = .ok (.iload_n 2, 1) := dk_28 (dk_at dksX3_put_0 14 rfl rfl)
theorem dX3_put_15 : decode cX3_put 15 = .ok (.invokestatic 42, 3) := dk_184 0 42 (dk_at dksX3_put_0 15 rfl rfl)
theorem dX3_put_18 : decode cX3_put 18 = .ok (.invokevirtual 114, 3) := dk_182 0 114 (dk_at dksX3_put_0 18 rfl rfl)
theorem dX3_put_21 : decode cX3_put 21 = .ok (.pop, 1) := dk_87 (dk_at dksX3_put_0 21 rfl rfl)
theorem dX3_put_22 : decode cX3_put 22 = .ok (.aload_n 0, 1) := dk_42 (dk_at dksX3_put_0 22 rfl rfl)
theorem dX3_put_23 : decode cX3_put 23 = .ok (.getfield 35, 3) := dk_180 0 35 (dk_at dksX3_put_1 0 rfl rfl)
theorem dX3_put_26 : decode cX3_put 26 = .ok (.iload_n 1, 1) := dk_27 (dk_at dksX3_put_1 3 rfl rfl)
theorem dX3_put_27 : decode cX3_put 27 = .ok (.iload_n 3, 1) := dk_29 (dk_at dksX3_put_1 4 rfl rfl)
theorem dX3_put_28 : decode cX3_put 28 = .ok (.invokestatic 42, 3) := dk_184 0 42 (dk_at dksX3_put_1 5 rfl rfl)
theorem dX3_put_31 : decode cX3_put 31 = .ok (.invokevirtual 114, 3) := dk_182 0 114 (dk_at dksX3_put_1 8 rfl rfl)
theorem dX3_put_34 : decode cX3_put 34 = .ok (.pop, 1) := dk_87 (dk_at dksX3_put_1 11 rfl rfl)
theorem dX3_put_35 : decode cX3_put 35 = .ok (.iconst 1, 1) := dk_4 (dk_at dksX3_put_1 12 rfl rfl)
theorem dX3_put_36 : decode cX3_put 36 = .ok (.ireturn, 1) := dk_172 (dk_at dksX3_put_1 13 rfl rfl)
abbrev cX3_take : ByteArray := prog_11_method_18_code
def yX3_take : MethodName := ⟨RX3, "take", "(I)Z"⟩
def dkwX3_take_1 : List UInt8 := [27, 2, 184, 0, 42, 182, 0, 114, 87, 42, 180, 0, 35, 27, 3, 184, 0, 42, 182, 0, 114, 87, 4, 172]
abbrev dktX3_take_1 : List UInt8 := dkwX3_take_1 ++ []
def dkwX3_take_0 : List UInt8 := [42, 180, 0, 28, 42, 180, 0, 32, 27, 182, 0, 48, 192, 0, 43, 182, 0, 54, 3, 79, 42, 180, 0, 32]
abbrev dktX3_take_0 : List UInt8 := dkwX3_take_0 ++ dktX3_take_1
theorem dksX3_take_0 : cX3_take.data.toList.drop 0 = dktX3_take_0 := by decide +kernel
theorem dksX3_take_1 : cX3_take.data.toList.drop 24 = dktX3_take_1 := dk_seg dksX3_take_0 24 rfl rfl
theorem dX3_take_0 : decode cX3_take 0 = .ok (.aload_n 0, 1) := dk_42 (dk_at dksX3_take_0 0 rfl rfl)
theorem dX3_take_1 : decode cX3_take 1 = .ok (.getfield 28, 3) := dk_180 0 28 (dk_at dksX3_take_0 1 rfl rfl)
theorem dX3_take_4 : decode cX3_take 4 = .ok (.aload_n 0, 1) := dk_42 (dk_at dksX3_take_0 4 rfl rfl)
theorem dX3_take_5 : decode cX3_take 5 = .ok (.getfield 32, 3) := dk_180 0 32 (dk_at dksX3_take_0 5 rfl rfl)
theorem dX3_take_8 : decode cX3_take 8 = .ok (.iload_n 1, 1) := dk_27 (dk_at dksX3_take_0 8 rfl rfl)
theorem dX3_take_9 : decode cX3_take 9 = .ok (.invokevirtual 48, 3) := dk_182 0 48 (dk_at dksX3_take_0 9 rfl rfl)
theorem dX3_take_12 : decode cX3_take 12 = .ok (.checkcast 43, 3) := dk_192 0 43 (dk_at dksX3_take_0 12 rfl rfl)
theorem dX3_take_15 : decode cX3_take 15 = .ok (.invokevirtual 54, 3) := dk_182 0 54 (dk_at dksX3_take_0 15 rfl rfl)
theorem dX3_take_18 : decode cX3_take 18 = .ok (.iconst 0, 1) := dk_3 (dk_at dksX3_take_0 18 rfl rfl)
theorem dX3_take_19 : decode cX3_take 19 = .ok (.iastore, 1) := dk_79 (dk_at dksX3_take_0 19 rfl rfl)
theorem dX3_take_20 : decode cX3_take 20 = .ok (.aload_n 0, 1) := dk_42 (dk_at dksX3_take_0 20 rfl rfl)
theorem dX3_take_21 : decode cX3_take 21 = .ok (.getfield 32, 3) := dk_180 0 32 (dk_at dksX3_take_0 21 rfl rfl)
theorem dX3_take_24 : decode cX3_take 24 = .ok (.iload_n 1, 1) := dk_27 (dk_at dksX3_take_1 0 rfl rfl)
theorem dX3_take_25 : decode cX3_take 25 = .ok (.iconst (-1), 1) := dk_2 (dk_at dksX3_take_1 1 rfl rfl)
theorem dX3_take_26 : decode cX3_take 26 = .ok (.invokestatic 42, 3) := dk_184 0 42 (dk_at dksX3_take_1 2 rfl rfl)
theorem dX3_take_29 : decode cX3_take 29 = .ok (.invokevirtual 114, 3) := dk_182 0 114 (dk_at dksX3_take_1 5 rfl rfl)
theorem dX3_take_32 : decode cX3_take 32 = .ok (.pop, 1) := dk_87 (dk_at dksX3_take_1 8 rfl rfl)
theorem dX3_take_33 : decode cX3_take 33 = .ok (.aload_n 0, 1) := dk_42 (dk_at dksX3_take_1 9 rfl rfl)
theorem dX3_take_34 : decode cX3_take 34 = .ok (.getfield 35, 3) := dk_180 0 35 (dk_at dksX3_take_1 10 rfl rfl)
theorem dX3_take_37 : decode cX3_take 37 = .ok (.iload_n 1, 1) := dk_27 (dk_at dksX3_take_1 13 rfl rfl)
theorem dX3_take_38 : decode cX3_take 38 = .ok (.iconst 0, 1) := dk_3 (dk_at dksX3_take_1 14 rfl rfl)
theorem dX3_take_39 : decode cX3_take 39 = .ok (.invokestatic 42, 3) := dk_184 0 42 (dk_at dksX3_take_1 15 rfl rfl)
theorem dX3_take_42 : decode cX3_take 42 = .ok (.invokevirtual 114, 3) := dk_182 0 114 (dk_at dksX3_take_1 18 rfl rfl)
theorem dX3_take_45 : decode cX3_take 45 = .ok (.pop, 1) := dk_87 (dk_at dksX3_take_1 21 rfl rfl)
theorem dX3_take_46 : decode cX3_take 46 = .ok (.iconst 1, 1) := dk_4 (dk_at dksX3_take_1 22 rfl rfl)
theorem dX3_take_47 : decode cX3_take 47 = .ok (.ireturn, 1) := dk_172 (dk_at dksX3_take_1 23 rfl rfl)
abbrev cX3_firstWay : ByteArray := prog_11_method_13_code
def yX3_firstWay : MethodName := ⟨RX3, "firstWay", "(I)Ljava/util/Optional;"⟩
def dkwX3_firstWay_2 : List UInt8 := [167, 255, 224, 132, 2, 1, 167, 255, 208, 184, 0, 103, 176]
abbrev dktX3_firstWay_2 : List UInt8 := dkwX3_firstWay_2 ++ []
def dkwX3_firstWay_1 : List UInt8 := [182, 0, 88, 153, 0, 16, 187, 0, 92, 89, 28, 29, 183, 0, 94, 184, 0, 97, 176, 132, 3, 1]
abbrev dktX3_firstWay_1 : List UInt8 := dkwX3_firstWay_1 ++ dktX3_firstWay_2
def dkwX3_firstWay_0 : List UInt8 := [3, 61, 28, 42, 182, 0, 62, 162, 0, 46, 3, 62, 29, 16, 6, 162, 0, 32, 42, 27, 28, 29]
abbrev dktX3_firstWay_0 : List UInt8 := dkwX3_firstWay_0 ++ dktX3_firstWay_1
theorem dksX3_firstWay_0 : cX3_firstWay.data.toList.drop 0 = dktX3_firstWay_0 := by decide +kernel
theorem dksX3_firstWay_1 : cX3_firstWay.data.toList.drop 22 = dktX3_firstWay_1 := dk_seg dksX3_firstWay_0 22 rfl rfl
theorem dksX3_firstWay_2 : cX3_firstWay.data.toList.drop 44 = dktX3_firstWay_2 := dk_seg dksX3_firstWay_1 22 rfl rfl
theorem dX3_firstWay_0 : decode cX3_firstWay 0 = .ok (.iconst 0, 1) := dk_3 (dk_at dksX3_firstWay_0 0 rfl rfl)
theorem dX3_firstWay_1 : decode cX3_firstWay 1 = .ok (.istore_n 2, 1) := dk_61 (dk_at dksX3_firstWay_0 1 rfl rfl)
theorem dX3_firstWay_2 : decode cX3_firstWay 2 = .ok (.iload_n 2, 1) := dk_28 (dk_at dksX3_firstWay_0 2 rfl rfl)
theorem dX3_firstWay_3 : decode cX3_firstWay 3 = .ok (.aload_n 0, 1) := dk_42 (dk_at dksX3_firstWay_0 3 rfl rfl)
theorem dX3_firstWay_4 : decode cX3_firstWay 4 = .ok (.invokevirtual 62, 3) := dk_182 0 62 (dk_at dksX3_firstWay_0 4 rfl rfl)
theorem dX3_firstWay_7 : decode cX3_firstWay 7 = .ok (.if_icmp .ge 46, 3) := dk_162 0 46 (dk_at dksX3_firstWay_0 7 rfl rfl)
theorem dX3_firstWay_10 : decode cX3_firstWay 10 = .ok (.iconst 0, 1) := dk_3 (dk_at dksX3_firstWay_0 10 rfl rfl)
theorem dX3_firstWay_11 : decode cX3_firstWay 11 = .ok (.istore_n 3, 1) := dk_62 (dk_at dksX3_firstWay_0 11 rfl rfl)
theorem dX3_firstWay_12 : decode cX3_firstWay 12 = .ok (.iload_n 3, 1) := dk_29 (dk_at dksX3_firstWay_0 12 rfl rfl)
theorem dX3_firstWay_13 : decode cX3_firstWay 13 = .ok (.bipush 6, 2) := dk_16 6 (dk_at dksX3_firstWay_0 13 rfl rfl)
theorem dX3_firstWay_15 : decode cX3_firstWay 15 = .ok (.if_icmp .ge 32, 3) := dk_162 0 32 (dk_at dksX3_firstWay_0 15 rfl rfl)
theorem dX3_firstWay_18 : decode cX3_firstWay 18 = .ok (.aload_n 0, 1) := dk_42 (dk_at dksX3_firstWay_0 18 rfl rfl)
theorem dX3_firstWay_19 : decode cX3_firstWay 19 = .ok (.iload_n 1, 1) := dk_27 (dk_at dksX3_firstWay_0 19 rfl rfl)
theorem dX3_firstWay_20 : decode cX3_firstWay 20 = .ok (.iload_n 2, 1) := dk_28 (dk_at dksX3_firstWay_0 20 rfl rfl)
theorem dX3_firstWay_21 : decode cX3_firstWay 21 = .ok (.iload_n 3, 1) := dk_29 (dk_at dksX3_firstWay_0 21 rfl rfl)
theorem dX3_firstWay_22 : decode cX3_firstWay 22 = .ok (.invokevirtual 88, 3) := dk_182 0 88 (dk_at dksX3_firstWay_1 0 rfl rfl)
theorem dX3_firstWay_25 : decode cX3_firstWay 25 = .ok (.ifCond .eq 16, 3) := dk_153 0 16 (dk_at dksX3_firstWay_1 3 rfl rfl)
theorem dX3_firstWay_28 : decode cX3_firstWay 28 = .ok (.new 92, 3) := dk_187 0 92 (dk_at dksX3_firstWay_1 6 rfl rfl)
theorem dX3_firstWay_31 : decode cX3_firstWay 31 = .ok (.dup, 1) := dk_89 (dk_at dksX3_firstWay_1 9 rfl rfl)
theorem dX3_firstWay_32 : decode cX3_firstWay 32 = .ok (.iload_n 2, 1) := dk_28 (dk_at dksX3_firstWay_1 10 rfl rfl)
theorem dX3_firstWay_33 : decode cX3_firstWay 33 = .ok (.iload_n 3, 1) := dk_29 (dk_at dksX3_firstWay_1 11 rfl rfl)
theorem dX3_firstWay_34 : decode cX3_firstWay 34 = .ok (.invokespecial 94, 3) := dk_183 0 94 (dk_at dksX3_firstWay_1 12 rfl rfl)
theorem dX3_firstWay_37 : decode cX3_firstWay 37 = .ok (.invokestatic 97, 3) := dk_184 0 97 (dk_at dksX3_firstWay_1 15 rfl rfl)
theorem dX3_firstWay_40 : decode cX3_firstWay 40 = .ok (.areturn, 1) := dk_176 (dk_at dksX3_firstWay_1 18 rfl rfl)
theorem dX3_firstWay_41 : decode cX3_firstWay 41 = .ok (.iinc 3 1, 3) := dk_132 3 1 (dk_at dksX3_firstWay_1 19 rfl rfl)
theorem dX3_firstWay_44 : decode cX3_firstWay 44 = .ok (.goto (-32), 3) := dk_167 255 224 (dk_at dksX3_firstWay_2 0 rfl rfl)
theorem dX3_firstWay_47 : decode cX3_firstWay 47 = .ok (.iinc 2 1, 3) := dk_132 2 1 (dk_at dksX3_firstWay_2 3 rfl rfl)
theorem dX3_firstWay_50 : decode cX3_firstWay 50 = .ok (.goto (-48), 3) := dk_167 255 208 (dk_at dksX3_firstWay_2 6 rfl rfl)
theorem dX3_firstWay_53 : decode cX3_firstWay 53 = .ok (.invokestatic 103, 3) := dk_184 0 103 (dk_at dksX3_firstWay_2 9 rfl rfl)
theorem dX3_firstWay_56 : decode cX3_firstWay 56 = .ok (.areturn, 1) := dk_176 (dk_at dksX3_firstWay_2 12 rfl rfl)
abbrev cX3_put_2 : ByteArray := prog_11_method_17_code
def yX3_put_2 : MethodName := ⟨RX3, "put", "(ILRingDomino$Way;)Z"⟩
def dkwX3_put_2_0 : List UInt8 := [42, 27, 44, 180, 0, 118, 44, 180, 0, 121, 182, 0, 124, 172]
abbrev dktX3_put_2_0 : List UInt8 := dkwX3_put_2_0 ++ []
theorem dksX3_put_2_0 : cX3_put_2.data.toList.drop 0 = dktX3_put_2_0 := by decide +kernel
theorem dX3_put_2_0 : decode cX3_put_2 0 = .ok (.aload_n 0, 1) := dk_42 (dk_at dksX3_put_2_0 0 rfl rfl)
theorem dX3_put_2_1 : decode cX3_put_2 1 = .ok (.iload_n 1, 1) := dk_27 (dk_at dksX3_put_2_0 1 rfl rfl)
theorem dX3_put_2_2 : decode cX3_put_2 2 = .ok (.aload_n 2, 1) := dk_44 (dk_at dksX3_put_2_0 2 rfl rfl)
theorem dX3_put_2_3 : decode cX3_put_2 3 = .ok (.getfield 118, 3) := dk_180 0 118 (dk_at dksX3_put_2_0 3 rfl rfl)
theorem dX3_put_2_6 : decode cX3_put_2 6 = .ok (.aload_n 2, 1) := dk_44 (dk_at dksX3_put_2_0 6 rfl rfl)
theorem dX3_put_2_7 : decode cX3_put_2 7 = .ok (.getfield 121, 3) := dk_180 0 121 (dk_at dksX3_put_2_0 7 rfl rfl)
theorem dX3_put_2_10 : decode cX3_put_2 10 = .ok (.invokevirtual 124, 3) := dk_182 0 124 (dk_at dksX3_put_2_0 10 rfl rfl)
theorem dX3_put_2_13 : decode cX3_put_2 13 = .ok (.ireturn, 1) := dk_172 (dk_at dksX3_put_2_0 13 rfl rfl)
abbrev cX3_bestTile : ByteArray := prog_11_method_29_code
def yX3_bestTile : MethodName := ⟨RX3, "bestTile", "()I"⟩
def dkwX3_bestTile_4 : List UInt8 := [182, 0, 186, 61, 132, 3, 1, 167, 255, 163, 27, 172]
abbrev dktX3_bestTile_4 : List UInt8 := dkwX3_bestTile_4 ++ []
def dkwX3_bestTile_3 : List UInt8 := [25, 4, 182, 0, 199, 192, 0, 92, 180, 0, 118, 25, 4, 182, 0, 199, 192, 0, 92, 180, 0, 121]
abbrev dktX3_bestTile_3 : List UInt8 := dkwX3_bestTile_3 ++ dktX3_bestTile_4
def dkwX3_bestTile_2 : List UInt8 := [182, 0, 199, 192, 0, 92, 180, 0, 121, 182, 0, 186, 28, 163, 0, 6, 167, 0, 33, 29, 60, 42, 29]
abbrev dktX3_bestTile_2 : List UInt8 := dkwX3_bestTile_2 ++ dktX3_bestTile_3
def dkwX3_bestTile_1 : List UInt8 := [25, 4, 182, 0, 196, 153, 0, 67, 42, 29, 25, 4, 182, 0, 199, 192, 0, 92, 180, 0, 118, 25, 4]
abbrev dktX3_bestTile_1 : List UInt8 := dkwX3_bestTile_1 ++ dktX3_bestTile_2
def dkwX3_bestTile_0 : List UInt8 := [2, 60, 2, 61, 3, 62, 29, 42, 180, 0, 21, 182, 0, 189, 162, 0, 88, 42, 29, 182, 0, 192, 58, 4]
abbrev dktX3_bestTile_0 : List UInt8 := dkwX3_bestTile_0 ++ dktX3_bestTile_1
theorem dksX3_bestTile_0 : cX3_bestTile.data.toList.drop 0 = dktX3_bestTile_0 := by decide +kernel
theorem dksX3_bestTile_1 : cX3_bestTile.data.toList.drop 24 = dktX3_bestTile_1 := dk_seg dksX3_bestTile_0 24 rfl rfl
theorem dksX3_bestTile_2 : cX3_bestTile.data.toList.drop 47 = dktX3_bestTile_2 := dk_seg dksX3_bestTile_1 23 rfl rfl
theorem dksX3_bestTile_3 : cX3_bestTile.data.toList.drop 70 = dktX3_bestTile_3 := dk_seg dksX3_bestTile_2 23 rfl rfl
theorem dksX3_bestTile_4 : cX3_bestTile.data.toList.drop 92 = dktX3_bestTile_4 := dk_seg dksX3_bestTile_3 22 rfl rfl
theorem dX3_bestTile_0 : decode cX3_bestTile 0 = .ok (.iconst (-1), 1) := dk_2 (dk_at dksX3_bestTile_0 0 rfl rfl)
theorem dX3_bestTile_1 : decode cX3_bestTile 1 = .ok (.istore_n 1, 1) := dk_60 (dk_at dksX3_bestTile_0 1 rfl rfl)
theorem dX3_bestTile_2 : decode cX3_bestTile 2 = .ok (.iconst (-1), 1) := dk_2 (dk_at dksX3_bestTile_0 2 rfl rfl)
theorem dX3_bestTile_3 : decode cX3_bestTile 3 = .ok (.istore_n 2, 1) := dk_61 (dk_at dksX3_bestTile_0 3 rfl rfl)
theorem dX3_bestTile_4 : decode cX3_bestTile 4 = .ok (.iconst 0, 1) := dk_3 (dk_at dksX3_bestTile_0 4 rfl rfl)
theorem dX3_bestTile_5 : decode cX3_bestTile 5 = .ok (.istore_n 3, 1) := dk_62 (dk_at dksX3_bestTile_0 5 rfl rfl)
theorem dX3_bestTile_6 : decode cX3_bestTile 6 = .ok (.iload_n 3, 1) := dk_29 (dk_at dksX3_bestTile_0 6 rfl rfl)
theorem dX3_bestTile_7 : decode cX3_bestTile 7 = .ok (.aload_n 0, 1) := dk_42 (dk_at dksX3_bestTile_0 7 rfl rfl)
theorem dX3_bestTile_8 : decode cX3_bestTile 8 = .ok (.getfield 21, 3) := dk_180 0 21 (dk_at dksX3_bestTile_0 8 rfl rfl)
theorem dX3_bestTile_11 : decode cX3_bestTile 11 = .ok (.invokevirtual 189, 3) := dk_182 0 189 (dk_at dksX3_bestTile_0 11 rfl rfl)
theorem dX3_bestTile_14 : decode cX3_bestTile 14 = .ok (.if_icmp .ge 88, 3) := dk_162 0 88 (dk_at dksX3_bestTile_0 14 rfl rfl)
theorem dX3_bestTile_17 : decode cX3_bestTile 17 = .ok (.aload_n 0, 1) := dk_42 (dk_at dksX3_bestTile_0 17 rfl rfl)
theorem dX3_bestTile_18 : decode cX3_bestTile 18 = .ok (.iload_n 3, 1) := dk_29 (dk_at dksX3_bestTile_0 18 rfl rfl)
theorem dX3_bestTile_19 : decode cX3_bestTile 19 = .ok (.invokevirtual 192, 3) := dk_182 0 192 (dk_at dksX3_bestTile_0 19 rfl rfl)
theorem dX3_bestTile_22 : decode cX3_bestTile 22 = .ok (.astore 4, 2) := dk_58 4 (dk_at dksX3_bestTile_0 22 rfl rfl)
theorem dX3_bestTile_24 : decode cX3_bestTile 24 = .ok (.aload 4, 2) := dk_25 4 (dk_at dksX3_bestTile_1 0 rfl rfl)
theorem dX3_bestTile_26 : decode cX3_bestTile 26 = .ok (.invokevirtual 196, 3) := dk_182 0 196 (dk_at dksX3_bestTile_1 2 rfl rfl)
theorem dX3_bestTile_29 : decode cX3_bestTile 29 = .ok (.ifCond .eq 67, 3) := dk_153 0 67 (dk_at dksX3_bestTile_1 5 rfl rfl)
theorem dX3_bestTile_32 : decode cX3_bestTile 32 = .ok (.aload_n 0, 1) := dk_42 (dk_at dksX3_bestTile_1 8 rfl rfl)
theorem dX3_bestTile_33 : decode cX3_bestTile 33 = .ok (.iload_n 3, 1) := dk_29 (dk_at dksX3_bestTile_1 9 rfl rfl)
theorem dX3_bestTile_34 : decode cX3_bestTile 34 = .ok (.aload 4, 2) := dk_25 4 (dk_at dksX3_bestTile_1 10 rfl rfl)
theorem dX3_bestTile_36 : decode cX3_bestTile 36 = .ok (.invokevirtual 199, 3) := dk_182 0 199 (dk_at dksX3_bestTile_1 12 rfl rfl)
theorem dX3_bestTile_39 : decode cX3_bestTile 39 = .ok (.checkcast 92, 3) := dk_192 0 92 (dk_at dksX3_bestTile_1 15 rfl rfl)
theorem dX3_bestTile_42 : decode cX3_bestTile 42 = .ok (.getfield 118, 3) := dk_180 0 118 (dk_at dksX3_bestTile_1 18 rfl rfl)
theorem dX3_bestTile_45 : decode cX3_bestTile 45 = .ok (.aload 4, 2) := dk_25 4 (dk_at dksX3_bestTile_1 21 rfl rfl)
theorem dX3_bestTile_47 : decode cX3_bestTile 47 = .ok (.invokevirtual 199, 3) := dk_182 0 199 (dk_at dksX3_bestTile_2 0 rfl rfl)
theorem dX3_bestTile_50 : decode cX3_bestTile 50 = .ok (.checkcast 92, 3) := dk_192 0 92 (dk_at dksX3_bestTile_2 3 rfl rfl)
theorem dX3_bestTile_53 : decode cX3_bestTile 53 = .ok (.getfield 121, 3) := dk_180 0 121 (dk_at dksX3_bestTile_2 6 rfl rfl)
theorem dX3_bestTile_56 : decode cX3_bestTile 56 = .ok (.invokevirtual 186, 3) := dk_182 0 186 (dk_at dksX3_bestTile_2 9 rfl rfl)
theorem dX3_bestTile_59 : decode cX3_bestTile 59 = .ok (.iload_n 2, 1) := dk_28 (dk_at dksX3_bestTile_2 12 rfl rfl)
theorem dX3_bestTile_60 : decode cX3_bestTile 60 = .ok (.if_icmp .gt 6, 3) := dk_163 0 6 (dk_at dksX3_bestTile_2 13 rfl rfl)
theorem dX3_bestTile_63 : decode cX3_bestTile 63 = .ok (.goto 33, 3) := dk_167 0 33 (dk_at dksX3_bestTile_2 16 rfl rfl)
theorem dX3_bestTile_66 : decode cX3_bestTile 66 = .ok (.iload_n 3, 1) := dk_29 (dk_at dksX3_bestTile_2 19 rfl rfl)
theorem dX3_bestTile_67 : decode cX3_bestTile 67 = .ok (.istore_n 1, 1) := dk_60 (dk_at dksX3_bestTile_2 20 rfl rfl)
theorem dX3_bestTile_68 : decode cX3_bestTile 68 = .ok (.aload_n 0, 1) := dk_42 (dk_at dksX3_bestTile_2 21 rfl rfl)
theorem dX3_bestTile_69 : decode cX3_bestTile 69 = .ok (.iload_n 3, 1) := dk_29 (dk_at dksX3_bestTile_2 22 rfl rfl)
theorem dX3_bestTile_70 : decode cX3_bestTile 70 = .ok (.aload 4, 2) := dk_25 4 (dk_at dksX3_bestTile_3 0 rfl rfl)
theorem dX3_bestTile_72 : decode cX3_bestTile 72 = .ok (.invokevirtual 199, 3) := dk_182 0 199 (dk_at dksX3_bestTile_3 2 rfl rfl)
theorem dX3_bestTile_75 : decode cX3_bestTile 75 = .ok (.checkcast 92, 3) := dk_192 0 92 (dk_at dksX3_bestTile_3 5 rfl rfl)
theorem dX3_bestTile_78 : decode cX3_bestTile 78 = .ok (.getfield 118, 3) := dk_180 0 118 (dk_at dksX3_bestTile_3 8 rfl rfl)
theorem dX3_bestTile_81 : decode cX3_bestTile 81 = .ok (.aload 4, 2) := dk_25 4 (dk_at dksX3_bestTile_3 11 rfl rfl)
theorem dX3_bestTile_83 : decode cX3_bestTile 83 = .ok (.invokevirtual 199, 3) := dk_182 0 199 (dk_at dksX3_bestTile_3 13 rfl rfl)
theorem dX3_bestTile_86 : decode cX3_bestTile 86 = .ok (.checkcast 92, 3) := dk_192 0 92 (dk_at dksX3_bestTile_3 16 rfl rfl)
theorem dX3_bestTile_89 : decode cX3_bestTile 89 = .ok (.getfield 121, 3) := dk_180 0 121 (dk_at dksX3_bestTile_3 19 rfl rfl)
theorem dX3_bestTile_92 : decode cX3_bestTile 92 = .ok (.invokevirtual 186, 3) := dk_182 0 186 (dk_at dksX3_bestTile_4 0 rfl rfl)
theorem dX3_bestTile_95 : decode cX3_bestTile 95 = .ok (.istore_n 2, 1) := dk_61 (dk_at dksX3_bestTile_4 3 rfl rfl)
theorem dX3_bestTile_96 : decode cX3_bestTile 96 = .ok (.iinc 3 1, 3) := dk_132 3 1 (dk_at dksX3_bestTile_4 4 rfl rfl)
theorem dX3_bestTile_99 : decode cX3_bestTile 99 = .ok (.goto (-93), 3) := dk_167 255 163 (dk_at dksX3_bestTile_4 7 rfl rfl)
theorem dX3_bestTile_102 : decode cX3_bestTile 102 = .ok (.iload_n 1, 1) := dk_27 (dk_at dksX3_bestTile_4 10 rfl rfl)
theorem dX3_bestTile_103 : decode cX3_bestTile 103 = .ok (.ireturn, 1) := dk_172 (dk_at dksX3_bestTile_4 11 rfl rfl)
abbrev cX3_bestWay : ByteArray := prog_11_method_28_code
def yX3_bestWay : MethodName := ⟨RX3, "bestWay", "(I)Ljava/util/Optional;"⟩
def dkwX3_bestWay_4 : List UInt8 := [44, 176]
abbrev dktX3_bestWay_4 : List UInt8 := dkwX3_bestWay_4 ++ []
def dkwX3_bestWay_3 : List UInt8 := [21, 5, 183, 0, 94, 184, 0, 97, 77, 21, 6, 62, 132, 5, 1, 167, 255, 192, 132, 4, 1, 167, 255, 174]
abbrev dktX3_bestWay_3 : List UInt8 := dkwX3_bestWay_3 ++ dktX3_bestWay_4
def dkwX3_bestWay_2 : List UInt8 := [182, 0, 186, 167, 0, 4, 2, 54, 6, 21, 6, 29, 163, 0, 6, 167, 0, 21, 187, 0, 92, 89, 21, 4]
abbrev dktX3_bestWay_2 : List UInt8 := dkwX3_bestWay_2 ++ dktX3_bestWay_3
def dkwX3_bestWay_1 : List UInt8 := [16, 6, 162, 0, 63, 42, 27, 21, 4, 21, 5, 182, 0, 88, 153, 0, 15, 42, 27, 21, 4, 21, 5]
abbrev dktX3_bestWay_1 : List UInt8 := dkwX3_bestWay_1 ++ dktX3_bestWay_2
def dkwX3_bestWay_0 : List UInt8 := [184, 0, 103, 77, 2, 62, 3, 54, 4, 21, 4, 42, 182, 0, 62, 162, 0, 79, 3, 54, 5, 21, 5]
abbrev dktX3_bestWay_0 : List UInt8 := dkwX3_bestWay_0 ++ dktX3_bestWay_1
theorem dksX3_bestWay_0 : cX3_bestWay.data.toList.drop 0 = dktX3_bestWay_0 := by decide +kernel
theorem dksX3_bestWay_1 : cX3_bestWay.data.toList.drop 23 = dktX3_bestWay_1 := dk_seg dksX3_bestWay_0 23 rfl rfl
theorem dksX3_bestWay_2 : cX3_bestWay.data.toList.drop 46 = dktX3_bestWay_2 := dk_seg dksX3_bestWay_1 23 rfl rfl
theorem dksX3_bestWay_3 : cX3_bestWay.data.toList.drop 70 = dktX3_bestWay_3 := dk_seg dksX3_bestWay_2 24 rfl rfl
theorem dksX3_bestWay_4 : cX3_bestWay.data.toList.drop 94 = dktX3_bestWay_4 := dk_seg dksX3_bestWay_3 24 rfl rfl
theorem dX3_bestWay_0 : decode cX3_bestWay 0 = .ok (.invokestatic 103, 3) := dk_184 0 103 (dk_at dksX3_bestWay_0 0 rfl rfl)
theorem dX3_bestWay_3 : decode cX3_bestWay 3 = .ok (.astore_n 2, 1) := dk_77 (dk_at dksX3_bestWay_0 3 rfl rfl)
theorem dX3_bestWay_4 : decode cX3_bestWay 4 = .ok (.iconst (-1), 1) := dk_2 (dk_at dksX3_bestWay_0 4 rfl rfl)
theorem dX3_bestWay_5 : decode cX3_bestWay 5 = .ok (.istore_n 3, 1) := dk_62 (dk_at dksX3_bestWay_0 5 rfl rfl)
theorem dX3_bestWay_6 : decode cX3_bestWay 6 = .ok (.iconst 0, 1) := dk_3 (dk_at dksX3_bestWay_0 6 rfl rfl)
theorem dX3_bestWay_7 : decode cX3_bestWay 7 = .ok (.istore 4, 2) := dk_54 4 (dk_at dksX3_bestWay_0 7 rfl rfl)
theorem dX3_bestWay_9 : decode cX3_bestWay 9 = .ok (.iload 4, 2) := dk_21 4 (dk_at dksX3_bestWay_0 9 rfl rfl)
theorem dX3_bestWay_11 : decode cX3_bestWay 11 = .ok (.aload_n 0, 1) := dk_42 (dk_at dksX3_bestWay_0 11 rfl rfl)
theorem dX3_bestWay_12 : decode cX3_bestWay 12 = .ok (.invokevirtual 62, 3) := dk_182 0 62 (dk_at dksX3_bestWay_0 12 rfl rfl)
theorem dX3_bestWay_15 : decode cX3_bestWay 15 = .ok (.if_icmp .ge 79, 3) := dk_162 0 79 (dk_at dksX3_bestWay_0 15 rfl rfl)
theorem dX3_bestWay_18 : decode cX3_bestWay 18 = .ok (.iconst 0, 1) := dk_3 (dk_at dksX3_bestWay_0 18 rfl rfl)
theorem dX3_bestWay_19 : decode cX3_bestWay 19 = .ok (.istore 5, 2) := dk_54 5 (dk_at dksX3_bestWay_0 19 rfl rfl)
theorem dX3_bestWay_21 : decode cX3_bestWay 21 = .ok (.iload 5, 2) := dk_21 5 (dk_at dksX3_bestWay_0 21 rfl rfl)
theorem dX3_bestWay_23 : decode cX3_bestWay 23 = .ok (.bipush 6, 2) := dk_16 6 (dk_at dksX3_bestWay_1 0 rfl rfl)
theorem dX3_bestWay_25 : decode cX3_bestWay 25 = .ok (.if_icmp .ge 63, 3) := dk_162 0 63 (dk_at dksX3_bestWay_1 2 rfl rfl)
theorem dX3_bestWay_28 : decode cX3_bestWay 28 = .ok (.aload_n 0, 1) := dk_42 (dk_at dksX3_bestWay_1 5 rfl rfl)
theorem dX3_bestWay_29 : decode cX3_bestWay 29 = .ok (.iload_n 1, 1) := dk_27 (dk_at dksX3_bestWay_1 6 rfl rfl)
theorem dX3_bestWay_30 : decode cX3_bestWay 30 = .ok (.iload 4, 2) := dk_21 4 (dk_at dksX3_bestWay_1 7 rfl rfl)
theorem dX3_bestWay_32 : decode cX3_bestWay 32 = .ok (.iload 5, 2) := dk_21 5 (dk_at dksX3_bestWay_1 9 rfl rfl)
theorem dX3_bestWay_34 : decode cX3_bestWay 34 = .ok (.invokevirtual 88, 3) := dk_182 0 88 (dk_at dksX3_bestWay_1 11 rfl rfl)
theorem dX3_bestWay_37 : decode cX3_bestWay 37 = .ok (.ifCond .eq 15, 3) := dk_153 0 15 (dk_at dksX3_bestWay_1 14 rfl rfl)
theorem dX3_bestWay_40 : decode cX3_bestWay 40 = .ok (.aload_n 0, 1) := dk_42 (dk_at dksX3_bestWay_1 17 rfl rfl)
theorem dX3_bestWay_41 : decode cX3_bestWay 41 = .ok (.iload_n 1, 1) := dk_27 (dk_at dksX3_bestWay_1 18 rfl rfl)
theorem dX3_bestWay_42 : decode cX3_bestWay 42 = .ok (.iload 4, 2) := dk_21 4 (dk_at dksX3_bestWay_1 19 rfl rfl)
theorem dX3_bestWay_44 : decode cX3_bestWay 44 = .ok (.iload 5, 2) := dk_21 5 (dk_at dksX3_bestWay_1 21 rfl rfl)
theorem dX3_bestWay_46 : decode cX3_bestWay 46 = .ok (.invokevirtual 186, 3) := dk_182 0 186 (dk_at dksX3_bestWay_2 0 rfl rfl)
theorem dX3_bestWay_49 : decode cX3_bestWay 49 = .ok (.goto 4, 3) := dk_167 0 4 (dk_at dksX3_bestWay_2 3 rfl rfl)
theorem dX3_bestWay_52 : decode cX3_bestWay 52 = .ok (.iconst (-1), 1) := dk_2 (dk_at dksX3_bestWay_2 6 rfl rfl)
theorem dX3_bestWay_53 : decode cX3_bestWay 53 = .ok (.istore 6, 2) := dk_54 6 (dk_at dksX3_bestWay_2 7 rfl rfl)
theorem dX3_bestWay_55 : decode cX3_bestWay 55 = .ok (.iload 6, 2) := dk_21 6 (dk_at dksX3_bestWay_2 9 rfl rfl)
theorem dX3_bestWay_57 : decode cX3_bestWay 57 = .ok (.iload_n 3, 1) := dk_29 (dk_at dksX3_bestWay_2 11 rfl rfl)
theorem dX3_bestWay_58 : decode cX3_bestWay 58 = .ok (.if_icmp .gt 6, 3) := dk_163 0 6 (dk_at dksX3_bestWay_2 12 rfl rfl)
theorem dX3_bestWay_61 : decode cX3_bestWay 61 = .ok (.goto 21, 3) := dk_167 0 21 (dk_at dksX3_bestWay_2 15 rfl rfl)
theorem dX3_bestWay_64 : decode cX3_bestWay 64 = .ok (.new 92, 3) := dk_187 0 92 (dk_at dksX3_bestWay_2 18 rfl rfl)
theorem dX3_bestWay_67 : decode cX3_bestWay 67 = .ok (.dup, 1) := dk_89 (dk_at dksX3_bestWay_2 21 rfl rfl)
theorem dX3_bestWay_68 : decode cX3_bestWay 68 = .ok (.iload 4, 2) := dk_21 4 (dk_at dksX3_bestWay_2 22 rfl rfl)
theorem dX3_bestWay_70 : decode cX3_bestWay 70 = .ok (.iload 5, 2) := dk_21 5 (dk_at dksX3_bestWay_3 0 rfl rfl)
theorem dX3_bestWay_72 : decode cX3_bestWay 72 = .ok (.invokespecial 94, 3) := dk_183 0 94 (dk_at dksX3_bestWay_3 2 rfl rfl)
theorem dX3_bestWay_75 : decode cX3_bestWay 75 = .ok (.invokestatic 97, 3) := dk_184 0 97 (dk_at dksX3_bestWay_3 5 rfl rfl)
theorem dX3_bestWay_78 : decode cX3_bestWay 78 = .ok (.astore_n 2, 1) := dk_77 (dk_at dksX3_bestWay_3 8 rfl rfl)
theorem dX3_bestWay_79 : decode cX3_bestWay 79 = .ok (.iload 6, 2) := dk_21 6 (dk_at dksX3_bestWay_3 9 rfl rfl)
theorem dX3_bestWay_81 : decode cX3_bestWay 81 = .ok (.istore_n 3, 1) := dk_62 (dk_at dksX3_bestWay_3 11 rfl rfl)
theorem dX3_bestWay_82 : decode cX3_bestWay 82 = .ok (.iinc 5 1, 3) := dk_132 5 1 (dk_at dksX3_bestWay_3 12 rfl rfl)
theorem dX3_bestWay_85 : decode cX3_bestWay 85 = .ok (.goto (-64), 3) := dk_167 255 192 (dk_at dksX3_bestWay_3 15 rfl rfl)
theorem dX3_bestWay_88 : decode cX3_bestWay 88 = .ok (.iinc 4 1, 3) := dk_132 4 1 (dk_at dksX3_bestWay_3 18 rfl rfl)
theorem dX3_bestWay_91 : decode cX3_bestWay 91 = .ok (.goto (-82), 3) := dk_167 255 174 (dk_at dksX3_bestWay_3 21 rfl rfl)
theorem dX3_bestWay_94 : decode cX3_bestWay 94 = .ok (.aload_n 2, 1) := dk_44 (dk_at dksX3_bestWay_4 0 rfl rfl)
theorem dX3_bestWay_95 : decode cX3_bestWay 95 = .ok (.areturn, 1) := dk_176 (dk_at dksX3_bestWay_4 1 rfl rfl)
abbrev cX3_pointsWith : ByteArray := prog_11_method_27_code
def yX3_pointsWith : MethodName := ⟨RX3, "pointsWith", "(III)I"⟩
def dkwX3_pointsWith_0 : List UInt8 := [42, 27, 28, 29, 182, 0, 124, 87, 42, 182, 0, 180, 54, 4, 42, 27, 182, 0, 183, 87, 21, 4, 172]
abbrev dktX3_pointsWith_0 : List UInt8 := dkwX3_pointsWith_0 ++ []
theorem dksX3_pointsWith_0 : cX3_pointsWith.data.toList.drop 0 = dktX3_pointsWith_0 := by decide +kernel
theorem dX3_pointsWith_0 : decode cX3_pointsWith 0 = .ok (.aload_n 0, 1) := dk_42 (dk_at dksX3_pointsWith_0 0 rfl rfl)
theorem dX3_pointsWith_1 : decode cX3_pointsWith 1 = .ok (.iload_n 1, 1) := dk_27 (dk_at dksX3_pointsWith_0 1 rfl rfl)
theorem dX3_pointsWith_2 : decode cX3_pointsWith 2 = .ok (.iload_n 2, 1) := dk_28 (dk_at dksX3_pointsWith_0 2 rfl rfl)
theorem dX3_pointsWith_3 : decode cX3_pointsWith 3 = .ok (.iload_n 3, 1) := dk_29 (dk_at dksX3_pointsWith_0 3 rfl rfl)
theorem dX3_pointsWith_4 : decode cX3_pointsWith 4 = .ok (.invokevirtual 124, 3) := dk_182 0 124 (dk_at dksX3_pointsWith_0 4 rfl rfl)
theorem dX3_pointsWith_7 : decode cX3_pointsWith 7 = .ok (.pop, 1) := dk_87 (dk_at dksX3_pointsWith_0 7 rfl rfl)
theorem dX3_pointsWith_8 : decode cX3_pointsWith 8 = .ok (.aload_n 0, 1) := dk_42 (dk_at dksX3_pointsWith_0 8 rfl rfl)
theorem dX3_pointsWith_9 : decode cX3_pointsWith 9 = .ok (.invokevirtual 180, 3) := dk_182 0 180 (dk_at dksX3_pointsWith_0 9 rfl rfl)
theorem dX3_pointsWith_12 : decode cX3_pointsWith 12 = .ok (.istore 4, 2) := dk_54 4 (dk_at dksX3_pointsWith_0 12 rfl rfl)
theorem dX3_pointsWith_14 : decode cX3_pointsWith 14 = .ok (.aload_n 0, 1) := dk_42 (dk_at dksX3_pointsWith_0 14 rfl rfl)
theorem dX3_pointsWith_15 : decode cX3_pointsWith 15 = .ok (.iload_n 1, 1) := dk_27 (dk_at dksX3_pointsWith_0 15 rfl rfl)
theorem dX3_pointsWith_16 : decode cX3_pointsWith 16 = .ok (.invokevirtual 183, 3) := dk_182 0 183 (dk_at dksX3_pointsWith_0 16 rfl rfl)
theorem dX3_pointsWith_19 : decode cX3_pointsWith 19 = .ok (.pop, 1) := dk_87 (dk_at dksX3_pointsWith_0 19 rfl rfl)
theorem dX3_pointsWith_20 : decode cX3_pointsWith 20 = .ok (.iload 4, 2) := dk_21 4 (dk_at dksX3_pointsWith_0 20 rfl rfl)
theorem dX3_pointsWith_22 : decode cX3_pointsWith 22 = .ok (.ireturn, 1) := dk_172 (dk_at dksX3_pointsWith_0 22 rfl rfl)
abbrev cX3_isLeft : ByteArray := prog_11_method_14_code
def yX3_isLeft : MethodName := ⟨RX3, "isLeft", "(I)Z"⟩
def dkwX3_isLeft_0 : List UInt8 := [42, 27, 182, 0, 74, 154, 0, 15, 42, 27, 182, 0, 107, 154, 0, 7, 4, 167, 0, 4, 3, 172]
abbrev dktX3_isLeft_0 : List UInt8 := dkwX3_isLeft_0 ++ []
theorem dksX3_isLeft_0 : cX3_isLeft.data.toList.drop 0 = dktX3_isLeft_0 := by decide +kernel
theorem dX3_isLeft_0 : decode cX3_isLeft 0 = .ok (.aload_n 0, 1) := dk_42 (dk_at dksX3_isLeft_0 0 rfl rfl)
theorem dX3_isLeft_1 : decode cX3_isLeft 1 = .ok (.iload_n 1, 1) := dk_27 (dk_at dksX3_isLeft_0 1 rfl rfl)
theorem dX3_isLeft_2 : decode cX3_isLeft 2 = .ok (.invokevirtual 74, 3) := dk_182 0 74 (dk_at dksX3_isLeft_0 2 rfl rfl)
theorem dX3_isLeft_5 : decode cX3_isLeft 5 = .ok (.ifCond .ne 15, 3) := dk_154 0 15 (dk_at dksX3_isLeft_0 5 rfl rfl)
theorem dX3_isLeft_8 : decode cX3_isLeft 8 = .ok (.aload_n 0, 1) := dk_42 (dk_at dksX3_isLeft_0 8 rfl rfl)
theorem dX3_isLeft_9 : decode cX3_isLeft 9 = .ok (.iload_n 1, 1) := dk_27 (dk_at dksX3_isLeft_0 9 rfl rfl)
theorem dX3_isLeft_10 : decode cX3_isLeft 10 = .ok (.invokevirtual 107, 3) := dk_182 0 107 (dk_at dksX3_isLeft_0 10 rfl rfl)
theorem dX3_isLeft_13 : decode cX3_isLeft 13 = .ok (.ifCond .ne 7, 3) := dk_154 0 7 (dk_at dksX3_isLeft_0 13 rfl rfl)
theorem dX3_isLeft_16 : decode cX3_isLeft 16 = .ok (.iconst 1, 1) := dk_4 (dk_at dksX3_isLeft_0 16 rfl rfl)
theorem dX3_isLeft_17 : decode cX3_isLeft 17 = .ok (.goto 4, 3) := dk_167 0 4 (dk_at dksX3_isLeft_0 17 rfl rfl)
theorem dX3_isLeft_20 : decode cX3_isLeft 20 = .ok (.iconst 0, 1) := dk_3 (dk_at dksX3_isLeft_0 20 rfl rfl)
theorem dX3_isLeft_21 : decode cX3_isLeft 21 = .ok (.ireturn, 1) := dk_172 (dk_at dksX3_isLeft_0 21 rfl rfl)
abbrev cX3_looks : ByteArray := prog_11_method_15_code
def yX3_looks : MethodName := ⟨RX3, "looks", "(I)I"⟩
def dkwX3_looks_2 : List UInt8 := [182, 0, 48, 192, 0, 52, 182, 0, 110, 153, 0, 7, 28, 167, 0, 7, 16, 6, 28, 104, 172]
abbrev dktX3_looks_2 : List UInt8 := dkwX3_looks_2 ++ []
def dkwX3_looks_1 : List UInt8 := [182, 0, 77, 158, 0, 7, 4, 167, 0, 4, 3, 96, 61, 132, 3, 1, 167, 255, 221, 42, 180, 0, 21, 27]
abbrev dktX3_looks_1 : List UInt8 := dkwX3_looks_1 ++ dktX3_looks_2
def dkwX3_looks_0 : List UInt8 := [3, 61, 3, 62, 29, 42, 182, 0, 62, 162, 0, 33, 28, 42, 29, 182, 0, 64, 154, 0, 15, 42, 29]
abbrev dktX3_looks_0 : List UInt8 := dkwX3_looks_0 ++ dktX3_looks_1
theorem dksX3_looks_0 : cX3_looks.data.toList.drop 0 = dktX3_looks_0 := by decide +kernel
theorem dksX3_looks_1 : cX3_looks.data.toList.drop 23 = dktX3_looks_1 := dk_seg dksX3_looks_0 23 rfl rfl
theorem dksX3_looks_2 : cX3_looks.data.toList.drop 47 = dktX3_looks_2 := dk_seg dksX3_looks_1 24 rfl rfl
theorem dX3_looks_0 : decode cX3_looks 0 = .ok (.iconst 0, 1) := dk_3 (dk_at dksX3_looks_0 0 rfl rfl)
theorem dX3_looks_1 : decode cX3_looks 1 = .ok (.istore_n 2, 1) := dk_61 (dk_at dksX3_looks_0 1 rfl rfl)
theorem dX3_looks_2 : decode cX3_looks 2 = .ok (.iconst 0, 1) := dk_3 (dk_at dksX3_looks_0 2 rfl rfl)
theorem dX3_looks_3 : decode cX3_looks 3 = .ok (.istore_n 3, 1) := dk_62 (dk_at dksX3_looks_0 3 rfl rfl)
theorem dX3_looks_4 : decode cX3_looks 4 = .ok (.iload_n 3, 1) := dk_29 (dk_at dksX3_looks_0 4 rfl rfl)
theorem dX3_looks_5 : decode cX3_looks 5 = .ok (.aload_n 0, 1) := dk_42 (dk_at dksX3_looks_0 5 rfl rfl)
theorem dX3_looks_6 : decode cX3_looks 6 = .ok (.invokevirtual 62, 3) := dk_182 0 62 (dk_at dksX3_looks_0 6 rfl rfl)
theorem dX3_looks_9 : decode cX3_looks 9 = .ok (.if_icmp .ge 33, 3) := dk_162 0 33 (dk_at dksX3_looks_0 9 rfl rfl)
theorem dX3_looks_12 : decode cX3_looks 12 = .ok (.iload_n 2, 1) := dk_28 (dk_at dksX3_looks_0 12 rfl rfl)
theorem dX3_looks_13 : decode cX3_looks 13 = .ok (.aload_n 0, 1) := dk_42 (dk_at dksX3_looks_0 13 rfl rfl)
theorem dX3_looks_14 : decode cX3_looks 14 = .ok (.iload_n 3, 1) := dk_29 (dk_at dksX3_looks_0 14 rfl rfl)
theorem dX3_looks_15 : decode cX3_looks 15 = .ok (.invokevirtual 64, 3) := dk_182 0 64 (dk_at dksX3_looks_0 15 rfl rfl)
theorem dX3_looks_18 : decode cX3_looks 18 = .ok (.ifCond .ne 15, 3) := dk_154 0 15 (dk_at dksX3_looks_0 18 rfl rfl)
theorem dX3_looks_21 : decode cX3_looks 21 = .ok (.aload_n 0, 1) := dk_42 (dk_at dksX3_looks_0 21 rfl rfl)
theorem dX3_looks_22 : decode cX3_looks 22 = .ok (.iload_n 3, 1) := dk_29 (dk_at dksX3_looks_0 22 rfl rfl)
theorem dX3_looks_23 : decode cX3_looks 23 = .ok (.invokevirtual 77, 3) := dk_182 0 77 (dk_at dksX3_looks_1 0 rfl rfl)
theorem dX3_looks_26 : decode cX3_looks 26 = .ok (.ifCond .le 7, 3) := dk_158 0 7 (dk_at dksX3_looks_1 3 rfl rfl)
theorem dX3_looks_29 : decode cX3_looks 29 = .ok (.iconst 1, 1) := dk_4 (dk_at dksX3_looks_1 6 rfl rfl)
theorem dX3_looks_30 : decode cX3_looks 30 = .ok (.goto 4, 3) := dk_167 0 4 (dk_at dksX3_looks_1 7 rfl rfl)
theorem dX3_looks_33 : decode cX3_looks 33 = .ok (.iconst 0, 1) := dk_3 (dk_at dksX3_looks_1 10 rfl rfl)
theorem dX3_looks_34 : decode cX3_looks 34 = .ok (.iadd, 1) := dk_96 (dk_at dksX3_looks_1 11 rfl rfl)
theorem dX3_looks_35 : decode cX3_looks 35 = .ok (.istore_n 2, 1) := dk_61 (dk_at dksX3_looks_1 12 rfl rfl)
theorem dX3_looks_36 : decode cX3_looks 36 = .ok (.iinc 3 1, 3) := dk_132 3 1 (dk_at dksX3_looks_1 13 rfl rfl)
theorem dX3_looks_39 : decode cX3_looks 39 = .ok (.goto (-35), 3) := dk_167 255 221 (dk_at dksX3_looks_1 16 rfl rfl)
theorem dX3_looks_42 : decode cX3_looks 42 = .ok (.aload_n 0, 1) := dk_42 (dk_at dksX3_looks_1 19 rfl rfl)
theorem dX3_looks_43 : decode cX3_looks 43 = .ok (.getfield 21, 3) := dk_180 0 21 (dk_at dksX3_looks_1 20 rfl rfl)
theorem dX3_looks_46 : decode cX3_looks 46 = .ok (.iload_n 1, 1) := dk_27 (dk_at dksX3_looks_1 23 rfl rfl)
theorem dX3_looks_47 : decode cX3_looks 47 = .ok (.invokevirtual 48, 3) := dk_182 0 48 (dk_at dksX3_looks_2 0 rfl rfl)
theorem dX3_looks_50 : decode cX3_looks 50 = .ok (.checkcast 52, 3) := dk_192 0 52 (dk_at dksX3_looks_2 3 rfl rfl)
theorem dX3_looks_53 : decode cX3_looks 53 = .ok (.invokevirtual 110, 3) := dk_182 0 110 (dk_at dksX3_looks_2 6 rfl rfl)
theorem dX3_looks_56 : decode cX3_looks 56 = .ok (.ifCond .eq 7, 3) := dk_153 0 7 (dk_at dksX3_looks_2 9 rfl rfl)
theorem dX3_looks_59 : decode cX3_looks 59 = .ok (.iload_n 2, 1) := dk_28 (dk_at dksX3_looks_2 12 rfl rfl)
theorem dX3_looks_60 : decode cX3_looks 60 = .ok (.goto 7, 3) := dk_167 0 7 (dk_at dksX3_looks_2 13 rfl rfl)
theorem dX3_looks_63 : decode cX3_looks 63 = .ok (.bipush 6, 2) := dk_16 6 (dk_at dksX3_looks_2 16 rfl rfl)
theorem dX3_looks_65 : decode cX3_looks 65 = .ok (.iload_n 2, 1) := dk_28 (dk_at dksX3_looks_2 18 rfl rfl)
theorem dX3_looks_66 : decode cX3_looks 66 = .ok (.imul, 1) := dk_104 (dk_at dksX3_looks_2 19 rfl rfl)
theorem dX3_looks_67 : decode cX3_looks 67 = .ok (.ireturn, 1) := dk_172 (dk_at dksX3_looks_2 20 rfl rfl)
theorem q102 : (Jvm.Cond.initialized "RingDomino$Game") ∈ lw_all := lw_g (lw_at lw_m1 3 rfl) rfl
theorem q191 : (Jvm.Cond.instantiable "RingDomino$Game" (9 : Nat)) ∈ lw_all := lw_g (lw_at lw_m1 92 rfl) rfl
theorem q193 : (Jvm.Cond.instanceMethod ({ cls := "RingDomino$Game", name := "<init>", desc := "()V" } : Jvm.MethodName)) ∈ lw_all := lw_g (lw_at lw_m1 94 rfl) rfl
theorem q194 : (Jvm.Cond.code ({ cls := "RingDomino$Game", name := "<init>", desc := "()V" } : Jvm.MethodName) prog_11_method_1_code (1 : Nat) (Option.none : Option Jvm.ClassFile.FieldType)) ∈ lw_all := lw_g (lw_at lw_m1 95 rfl) rfl
theorem q195 : (Jvm.Cond.methodLink "RingDomino$Game" (3 : Nat) ({ cls := "java/lang/Object", name := "<init>", desc := "()V" } : Jvm.MethodName)) ∈ lw_all := lw_g (lw_at lw_m1 96 rfl) rfl
theorem q196 : (Jvm.Cond.classLink "RingDomino$Game" (18 : Nat) "java/util/ArrayList") ∈ lw_all := lw_g (lw_at lw_m1 97 rfl) rfl
theorem q198 : (Jvm.Cond.methodLink "RingDomino$Game" (20 : Nat) ({ cls := "java/util/ArrayList", name := "<init>", desc := "()V" } : Jvm.MethodName)) ∈ lw_all := lw_g (lw_at lw_m1 99 rfl) rfl
theorem q225 : (Jvm.Cond.fieldLink "RingDomino$Game" (9 : Nat) "RingDomino$Game" "columns" "I") ∈ lw_all := lw_g (lw_at lw_m1 126 rfl) rfl
theorem q229 : (Jvm.Cond.fieldLink "RingDomino$Game" (15 : Nat) "RingDomino$Game" "rows" "I") ∈ lw_all := lw_g (lw_at lw_m1 130 rfl) rfl
theorem q233 : (Jvm.Cond.fieldLink "RingDomino$Game" (21 : Nat) "RingDomino$Game" "tiles" "Ljava/util/ArrayList;") ∈ lw_all := lw_g (lw_at lw_m1 134 rfl) rfl
theorem q235 : (Jvm.Cond.fieldLink "RingDomino$Game" (25 : Nat) "RingDomino$Game" "orders" "Ljava/util/ArrayList;") ∈ lw_all := lw_g (lw_at lw_m1 136 rfl) rfl
theorem q239 : (Jvm.Cond.fieldLink "RingDomino$Game" (177 : Nat) "RingDomino$Game" "round" "I") ∈ lw_all := lw_g (lw_at lw_m1 140 rfl) rfl
theorem q240 : (Jvm.Cond.fieldLink "RingDomino$Game" (174 : Nat) "RingDomino$Game" "done" "I") ∈ lw_all := lw_g (lw_at lw_m1 141 rfl) rfl
theorem q242 : (Jvm.Cond.fieldLink "RingDomino$Game" (28 : Nat) "RingDomino$Game" "lies" "[I") ∈ lw_all := lw_g (lw_at lw_m1 143 rfl) rfl
theorem q244 : (Jvm.Cond.fieldLink "RingDomino$Game" (32 : Nat) "RingDomino$Game" "cells" "Ljava/util/ArrayList;") ∈ lw_all := lw_g (lw_at lw_m1 145 rfl) rfl
theorem q246 : (Jvm.Cond.fieldLink "RingDomino$Game" (35 : Nat) "RingDomino$Game" "turns" "Ljava/util/ArrayList;") ∈ lw_all := lw_g (lw_at lw_m1 147 rfl) rfl
theorem q248 : (Jvm.Cond.lays "RingDomino$Game" "RingDomino$Game" "columns" "I") ∈ lw_all := lw_g (lw_at lw_m1 149 rfl) rfl
theorem q249 : (Jvm.Cond.soleField "RingDomino$Game" "columns") ∈ lw_all := lw_g (lw_at lw_m1 150 rfl) rfl
theorem q250 : (Jvm.Cond.lays "RingDomino$Game" "RingDomino$Game" "rows" "I") ∈ lw_all := lw_g (lw_at lw_m1 151 rfl) rfl
theorem q251 : (Jvm.Cond.soleField "RingDomino$Game" "rows") ∈ lw_all := lw_g (lw_at lw_m1 152 rfl) rfl
theorem q252 : (Jvm.Cond.laysFinal "RingDomino$Game" "RingDomino$Game" "tiles" "Ljava/util/ArrayList;") ∈ lw_all := lw_g (lw_at lw_m1 153 rfl) rfl
theorem q253 : (Jvm.Cond.soleField "RingDomino$Game" "tiles") ∈ lw_all := lw_g (lw_at lw_m1 154 rfl) rfl
theorem q254 : (Jvm.Cond.laysFinal "RingDomino$Game" "RingDomino$Game" "orders" "Ljava/util/ArrayList;") ∈ lw_all := lw_g (lw_at lw_m1 155 rfl) rfl
theorem q255 : (Jvm.Cond.soleField "RingDomino$Game" "orders") ∈ lw_all := lw_g (lw_at lw_m1 156 rfl) rfl
theorem q256 : (Jvm.Cond.lays "RingDomino$Game" "RingDomino$Game" "round" "I") ∈ lw_all := lw_g (lw_at lw_m1 157 rfl) rfl
theorem q257 : (Jvm.Cond.soleField "RingDomino$Game" "round") ∈ lw_all := lw_g (lw_at lw_m1 158 rfl) rfl
theorem q258 : (Jvm.Cond.lays "RingDomino$Game" "RingDomino$Game" "done" "I") ∈ lw_all := lw_g (lw_at lw_m1 159 rfl) rfl
theorem q259 : (Jvm.Cond.soleField "RingDomino$Game" "done") ∈ lw_all := lw_g (lw_at lw_m1 160 rfl) rfl
theorem q260 : (Jvm.Cond.laysFinal "RingDomino$Game" "RingDomino$Game" "lies" "[I") ∈ lw_all := lw_g (lw_at lw_m1 161 rfl) rfl
theorem q261 : (Jvm.Cond.soleField "RingDomino$Game" "lies") ∈ lw_all := lw_g (lw_at lw_m1 162 rfl) rfl
theorem q262 : (Jvm.Cond.laysFinal "RingDomino$Game" "RingDomino$Game" "cells" "Ljava/util/ArrayList;") ∈ lw_all := lw_g (lw_at lw_m1 163 rfl) rfl
theorem q263 : (Jvm.Cond.soleField "RingDomino$Game" "cells") ∈ lw_all := lw_g (lw_at lw_m1 164 rfl) rfl
theorem q264 : (Jvm.Cond.laysFinal "RingDomino$Game" "RingDomino$Game" "turns" "Ljava/util/ArrayList;") ∈ lw_all := lw_g (lw_at lw_m1 165 rfl) rfl
theorem q265 : (Jvm.Cond.soleField "RingDomino$Game" "turns") ∈ lw_all := lw_g (lw_at lw_m1 166 rfl) rfl
theorem q266 : (Jvm.Cond.superclass "RingDomino$Game" "java/lang/Object") ∈ lw_all := lw_g (lw_at lw_m1 167 rfl) rfl
theorem q794 : (Jvm.Cond.selects "RingDomino$Game" ({ cls := "java/lang/Object", name := "getClass", desc := "()Ljava/lang/Class;" } : Jvm.MethodName) ({ cls := "java/lang/Object", name := "getClass", desc := "()Ljava/lang/Class;" } : Jvm.MethodName)) ∈ lw_all := lw_g (lw_at lw_m3 215 rfl) rfl
theorem q1057 : (Jvm.Cond.selects "RingDomino$Game" ({ cls := "java/lang/Object", name := "hashCode", desc := "()I" } : Jvm.MethodName) ({ cls := "java/lang/Object", name := "hashCode", desc := "()I" } : Jvm.MethodName)) ∈ lw_all := lw_g (lw_at lw_m4 238 rfl) rfl
theorem q1174 : (Jvm.Cond.selects "RingDomino$Game" ({ cls := "java/lang/Object", name := "equals", desc := "(Ljava/lang/Object;)Z" } : Jvm.MethodName) ({ cls := "java/lang/Object", name := "equals", desc := "(Ljava/lang/Object;)Z" } : Jvm.MethodName)) ∈ lw_all := lw_g (lw_at lw_m5 115 rfl) rfl
theorem q1557 : (Jvm.Cond.instanceMethod ({ cls := "RingDomino$Game", name := "add", desc := "(LRingDomino$Tile;)V" } : Jvm.MethodName)) ∈ lw_all := lw_g (lw_at lw_m7 18 rfl) rfl
theorem q1558 : (Jvm.Cond.selects "RingDomino$Game" ({ cls := "RingDomino$Game", name := "add", desc := "(LRingDomino$Tile;)V" } : Jvm.MethodName) ({ cls := "RingDomino$Game", name := "add", desc := "(LRingDomino$Tile;)V" } : Jvm.MethodName)) ∈ lw_all := lw_g (lw_at lw_m7 19 rfl) rfl
theorem q1559 : (Jvm.Cond.code ({ cls := "RingDomino$Game", name := "add", desc := "(LRingDomino$Tile;)V" } : Jvm.MethodName) prog_11_method_3_code (2 : Nat) (Option.none : Option Jvm.ClassFile.FieldType)) ∈ lw_all := lw_g (lw_at lw_m7 20 rfl) rfl
theorem q1560 : (Jvm.Cond.methodLink "RingDomino$Game" (38 : Nat) ({ cls := "java/util/ArrayList", name := "add", desc := "(Ljava/lang/Object;)Z" } : Jvm.MethodName)) ∈ lw_all := lw_g (lw_at lw_m7 21 rfl) rfl
theorem q1561 : (Jvm.Cond.methodLink "RingDomino$Game" (42 : Nat) ({ cls := "java/lang/Integer", name := "valueOf", desc := "(I)Ljava/lang/Integer;" } : Jvm.MethodName)) ∈ lw_all := lw_g (lw_at lw_m7 22 rfl) rfl
theorem q1954 : (Jvm.Cond.fieldLinkNest "RingDomino$Game" (164 : Nat) "RingDomino$Order" "craft" "LRingDomino$Craft;" "RingDomino") ∈ lw_tbl := lw_at lw_m8 175 rfl
theorem q1966 : (Jvm.Cond.fieldLinkNest "RingDomino$Game" (154 : Nat) "RingDomino$Order" "test" "LRingDomino$Test;" "RingDomino") ∈ lw_tbl := lw_at lw_m8 187 rfl
theorem q2006 : (Jvm.Cond.instanceMethod ({ cls := "RingDomino$Game", name := "placed", desc := "()I" } : Jvm.MethodName)) ∈ lw_all := lw_g (lw_at lw_m8 227 rfl) rfl
theorem q2007 : (Jvm.Cond.selects "RingDomino$Game" ({ cls := "RingDomino$Game", name := "placed", desc := "()I" } : Jvm.MethodName) ({ cls := "RingDomino$Game", name := "placed", desc := "()I" } : Jvm.MethodName)) ∈ lw_all := lw_g (lw_at lw_m8 228 rfl) rfl
theorem q2008 : (Jvm.Cond.code ({ cls := "RingDomino$Game", name := "placed", desc := "()I" } : Jvm.MethodName) prog_11_method_8_code (3 : Nat) (Option.some Jvm.ClassFile.FieldType.int)) ∈ lw_all := lw_g (lw_at lw_m8 229 rfl) rfl
theorem q2009 : (Jvm.Cond.methodLink "RingDomino$Game" (62 : Nat) ({ cls := "RingDomino$Game", name := "cells", desc := "()I" } : Jvm.MethodName)) ∈ lw_all := lw_g (lw_at lw_m8 230 rfl) rfl
theorem q2010 : (Jvm.Cond.instanceMethod ({ cls := "RingDomino$Game", name := "cells", desc := "()I" } : Jvm.MethodName)) ∈ lw_all := lw_g (lw_at lw_m8 231 rfl) rfl
theorem q2011 : (Jvm.Cond.selects "RingDomino$Game" ({ cls := "RingDomino$Game", name := "cells", desc := "()I" } : Jvm.MethodName) ({ cls := "RingDomino$Game", name := "cells", desc := "()I" } : Jvm.MethodName)) ∈ lw_all := lw_g (lw_at lw_m8 232 rfl) rfl
theorem q2012 : (Jvm.Cond.code ({ cls := "RingDomino$Game", name := "cells", desc := "()I" } : Jvm.MethodName) prog_11_method_2_code (1 : Nat) (Option.some Jvm.ClassFile.FieldType.int)) ∈ lw_all := lw_g (lw_at lw_m8 233 rfl) rfl
theorem q2013 : (Jvm.Cond.methodLink "RingDomino$Game" (64 : Nat) ({ cls := "RingDomino$Game", name := "hasTile", desc := "(I)Z" } : Jvm.MethodName)) ∈ lw_all := lw_g (lw_at lw_m8 234 rfl) rfl
theorem q2014 : (Jvm.Cond.instanceMethod ({ cls := "RingDomino$Game", name := "hasTile", desc := "(I)Z" } : Jvm.MethodName)) ∈ lw_all := lw_g (lw_at lw_m8 235 rfl) rfl
theorem q2015 : (Jvm.Cond.selects "RingDomino$Game" ({ cls := "RingDomino$Game", name := "hasTile", desc := "(I)Z" } : Jvm.MethodName) ({ cls := "RingDomino$Game", name := "hasTile", desc := "(I)Z" } : Jvm.MethodName)) ∈ lw_all := lw_g (lw_at lw_m8 236 rfl) rfl
theorem q2016 : (Jvm.Cond.code ({ cls := "RingDomino$Game", name := "hasTile", desc := "(I)Z" } : Jvm.MethodName) prog_11_method_5_code (2 : Nat) (Option.some Jvm.ClassFile.FieldType.boolean)) ∈ lw_all := lw_g (lw_at lw_m8 237 rfl) rfl
theorem q2022 : (Jvm.Cond.instanceMethod ({ cls := "RingDomino$Game", name := "matches", desc := "()I" } : Jvm.MethodName)) ∈ lw_all := lw_g (lw_at lw_m9 3 rfl) rfl
theorem q2023 : (Jvm.Cond.selects "RingDomino$Game" ({ cls := "RingDomino$Game", name := "matches", desc := "()I" } : Jvm.MethodName) ({ cls := "RingDomino$Game", name := "matches", desc := "()I" } : Jvm.MethodName)) ∈ lw_all := lw_g (lw_at lw_m9 4 rfl) rfl
theorem q2024 : (Jvm.Cond.code ({ cls := "RingDomino$Game", name := "matches", desc := "()I" } : Jvm.MethodName) prog_11_method_20_code (3 : Nat) (Option.some Jvm.ClassFile.FieldType.int)) ∈ lw_all := lw_g (lw_at lw_m9 5 rfl) rfl
theorem q2025 : (Jvm.Cond.methodLink "RingDomino$Game" (127 : Nat) ({ cls := "RingDomino$Game", name := "matchesOf", desc := "(I)I" } : Jvm.MethodName)) ∈ lw_all := lw_g (lw_at lw_m9 6 rfl) rfl
theorem q2026 : (Jvm.Cond.instanceMethod ({ cls := "RingDomino$Game", name := "matchesOf", desc := "(I)I" } : Jvm.MethodName)) ∈ lw_all := lw_g (lw_at lw_m9 7 rfl) rfl
theorem q2027 : (Jvm.Cond.selects "RingDomino$Game" ({ cls := "RingDomino$Game", name := "matchesOf", desc := "(I)I" } : Jvm.MethodName) ({ cls := "RingDomino$Game", name := "matchesOf", desc := "(I)I" } : Jvm.MethodName)) ∈ lw_all := lw_g (lw_at lw_m9 8 rfl) rfl
theorem q2028 : (Jvm.Cond.code ({ cls := "RingDomino$Game", name := "matchesOf", desc := "(I)I" } : Jvm.MethodName) prog_11_method_19_code (2 : Nat) (Option.some Jvm.ClassFile.FieldType.int)) ∈ lw_all := lw_g (lw_at lw_m9 9 rfl) rfl
theorem q2029 : (Jvm.Cond.methodLink "RingDomino$Game" (77 : Nat) ({ cls := "RingDomino$Game", name := "around", desc := "(I)I" } : Jvm.MethodName)) ∈ lw_all := lw_g (lw_at lw_m9 10 rfl) rfl
theorem q2030 : (Jvm.Cond.instanceMethod ({ cls := "RingDomino$Game", name := "around", desc := "(I)I" } : Jvm.MethodName)) ∈ lw_all := lw_g (lw_at lw_m9 11 rfl) rfl
theorem q2031 : (Jvm.Cond.selects "RingDomino$Game" ({ cls := "RingDomino$Game", name := "around", desc := "(I)I" } : Jvm.MethodName) ({ cls := "RingDomino$Game", name := "around", desc := "(I)I" } : Jvm.MethodName)) ∈ lw_all := lw_g (lw_at lw_m9 12 rfl) rfl
theorem q2032 : (Jvm.Cond.code ({ cls := "RingDomino$Game", name := "around", desc := "(I)I" } : Jvm.MethodName) prog_11_method_9_code (4 : Nat) (Option.some Jvm.ClassFile.FieldType.int)) ∈ lw_all := lw_g (lw_at lw_m9 13 rfl) rfl
theorem q2033 : (Jvm.Cond.methodLink "RingDomino$Game" (68 : Nat) ({ cls := "RingDomino$Game", name := "beside", desc := "(II)I" } : Jvm.MethodName)) ∈ lw_all := lw_g (lw_at lw_m9 14 rfl) rfl
theorem q2034 : (Jvm.Cond.instanceMethod ({ cls := "RingDomino$Game", name := "beside", desc := "(II)I" } : Jvm.MethodName)) ∈ lw_all := lw_g (lw_at lw_m9 15 rfl) rfl
theorem q2035 : (Jvm.Cond.selects "RingDomino$Game" ({ cls := "RingDomino$Game", name := "beside", desc := "(II)I" } : Jvm.MethodName) ({ cls := "RingDomino$Game", name := "beside", desc := "(II)I" } : Jvm.MethodName)) ∈ lw_all := lw_g (lw_at lw_m9 16 rfl) rfl
theorem q2036 : (Jvm.Cond.code ({ cls := "RingDomino$Game", name := "beside", desc := "(II)I" } : Jvm.MethodName) prog_11_method_4_code (5 : Nat) (Option.some Jvm.ClassFile.FieldType.int)) ∈ lw_all := lw_g (lw_at lw_m9 17 rfl) rfl
theorem q2042 : (Jvm.Cond.instanceMethod ({ cls := "RingDomino$Game", name := "points", desc := "()I" } : Jvm.MethodName)) ∈ lw_all := lw_g (lw_at lw_m9 23 rfl) rfl
theorem q2043 : (Jvm.Cond.selects "RingDomino$Game" ({ cls := "RingDomino$Game", name := "points", desc := "()I" } : Jvm.MethodName) ({ cls := "RingDomino$Game", name := "points", desc := "()I" } : Jvm.MethodName)) ∈ lw_all := lw_g (lw_at lw_m9 24 rfl) rfl
theorem q2044 : (Jvm.Cond.code ({ cls := "RingDomino$Game", name := "points", desc := "()I" } : Jvm.MethodName) prog_11_method_24_code (1 : Nat) (Option.some Jvm.ClassFile.FieldType.int)) ∈ lw_all := lw_g (lw_at lw_m9 25 rfl) rfl
theorem q2045 : (Jvm.Cond.methodLink "RingDomino$Game" (133 : Nat) ({ cls := "RingDomino$Game", name := "sum", desc := "()I" } : Jvm.MethodName)) ∈ lw_all := lw_g (lw_at lw_m9 26 rfl) rfl
theorem q2046 : (Jvm.Cond.instanceMethod ({ cls := "RingDomino$Game", name := "sum", desc := "()I" } : Jvm.MethodName)) ∈ lw_all := lw_g (lw_at lw_m9 27 rfl) rfl
theorem q2047 : (Jvm.Cond.selects "RingDomino$Game" ({ cls := "RingDomino$Game", name := "sum", desc := "()I" } : Jvm.MethodName) ({ cls := "RingDomino$Game", name := "sum", desc := "()I" } : Jvm.MethodName)) ∈ lw_all := lw_g (lw_at lw_m9 28 rfl) rfl
theorem q2048 : (Jvm.Cond.code ({ cls := "RingDomino$Game", name := "sum", desc := "()I" } : Jvm.MethodName) prog_11_method_21_code (4 : Nat) (Option.some Jvm.ClassFile.FieldType.int)) ∈ lw_all := lw_g (lw_at lw_m9 29 rfl) rfl
theorem q2049 : (Jvm.Cond.methodLink "RingDomino$Game" (71 : Nat) ({ cls := "RingDomino$Game", name := "number", desc := "(II)I" } : Jvm.MethodName)) ∈ lw_all := lw_g (lw_at lw_m9 30 rfl) rfl
theorem q2050 : (Jvm.Cond.instanceMethod ({ cls := "RingDomino$Game", name := "number", desc := "(II)I" } : Jvm.MethodName)) ∈ lw_all := lw_g (lw_at lw_m9 31 rfl) rfl
theorem q2051 : (Jvm.Cond.selects "RingDomino$Game" ({ cls := "RingDomino$Game", name := "number", desc := "(II)I" } : Jvm.MethodName) ({ cls := "RingDomino$Game", name := "number", desc := "(II)I" } : Jvm.MethodName)) ∈ lw_all := lw_g (lw_at lw_m9 32 rfl) rfl
theorem q2052 : (Jvm.Cond.code ({ cls := "RingDomino$Game", name := "number", desc := "(II)I" } : Jvm.MethodName) prog_11_method_6_code (4 : Nat) (Option.some Jvm.ClassFile.FieldType.int)) ∈ lw_all := lw_g (lw_at lw_m9 33 rfl) rfl
theorem q2053 : (Jvm.Cond.methodLink "RingDomino$Game" (48 : Nat) ({ cls := "java/util/ArrayList", name := "get", desc := "(I)Ljava/lang/Object;" } : Jvm.MethodName)) ∈ lw_all := lw_g (lw_at lw_m9 34 rfl) rfl
theorem q2054 : (Jvm.Cond.classLink "RingDomino$Game" (52 : Nat) "RingDomino$Tile") ∈ lw_all := lw_g (lw_at lw_m9 35 rfl) rfl
theorem q2055 : (Jvm.Cond.classLink "RingDomino$Game" (43 : Nat) "java/lang/Integer") ∈ lw_all := lw_g (lw_at lw_m9 36 rfl) rfl
theorem q2056 : (Jvm.Cond.methodLink "RingDomino$Game" (54 : Nat) ({ cls := "java/lang/Integer", name := "intValue", desc := "()I" } : Jvm.MethodName)) ∈ lw_all := lw_g (lw_at lw_m9 37 rfl) rfl
theorem q2057 : (Jvm.Cond.methodLink "RingDomino$Game" (58 : Nat) ({ cls := "RingDomino$Tile", name := "at", desc := "(II)I" } : Jvm.MethodName)) ∈ lw_all := lw_g (lw_at lw_m9 38 rfl) rfl
theorem q2061 : (Jvm.Cond.methodLink "RingDomino$Game" (136 : Nat) ({ cls := "RingDomino$Game", name := "rings", desc := "()I" } : Jvm.MethodName)) ∈ lw_all := lw_g (lw_at lw_m9 42 rfl) rfl
theorem q2062 : (Jvm.Cond.instanceMethod ({ cls := "RingDomino$Game", name := "rings", desc := "()I" } : Jvm.MethodName)) ∈ lw_all := lw_g (lw_at lw_m9 43 rfl) rfl
theorem q2063 : (Jvm.Cond.selects "RingDomino$Game" ({ cls := "RingDomino$Game", name := "rings", desc := "()I" } : Jvm.MethodName) ({ cls := "RingDomino$Game", name := "rings", desc := "()I" } : Jvm.MethodName)) ∈ lw_all := lw_g (lw_at lw_m9 44 rfl) rfl
theorem q2064 : (Jvm.Cond.code ({ cls := "RingDomino$Game", name := "rings", desc := "()I" } : Jvm.MethodName) prog_11_method_23_code (3 : Nat) (Option.some Jvm.ClassFile.FieldType.int)) ∈ lw_all := lw_g (lw_at lw_m9 45 rfl) rfl
theorem q2065 : (Jvm.Cond.methodLink "RingDomino$Game" (130 : Nat) ({ cls := "RingDomino$Game", name := "isRing", desc := "(I)Z" } : Jvm.MethodName)) ∈ lw_all := lw_g (lw_at lw_m9 46 rfl) rfl
theorem q2066 : (Jvm.Cond.instanceMethod ({ cls := "RingDomino$Game", name := "isRing", desc := "(I)Z" } : Jvm.MethodName)) ∈ lw_all := lw_g (lw_at lw_m9 47 rfl) rfl
theorem q2067 : (Jvm.Cond.selects "RingDomino$Game" ({ cls := "RingDomino$Game", name := "isRing", desc := "(I)Z" } : Jvm.MethodName) ({ cls := "RingDomino$Game", name := "isRing", desc := "(I)Z" } : Jvm.MethodName)) ∈ lw_all := lw_g (lw_at lw_m9 48 rfl) rfl
theorem q2068 : (Jvm.Cond.code ({ cls := "RingDomino$Game", name := "isRing", desc := "(I)Z" } : Jvm.MethodName) prog_11_method_22_code (2 : Nat) (Option.some Jvm.ClassFile.FieldType.boolean)) ∈ lw_all := lw_g (lw_at lw_m9 49 rfl) rfl
theorem q2079 : (Jvm.Cond.instanceMethod ({ cls := "RingDomino$Game", name := "groups", desc := "()I" } : Jvm.MethodName)) ∈ lw_all := lw_g (lw_at lw_m9 60 rfl) rfl
theorem q2080 : (Jvm.Cond.selects "RingDomino$Game" ({ cls := "RingDomino$Game", name := "groups", desc := "()I" } : Jvm.MethodName) ({ cls := "RingDomino$Game", name := "groups", desc := "()I" } : Jvm.MethodName)) ∈ lw_all := lw_g (lw_at lw_m9 61 rfl) rfl
theorem q2081 : (Jvm.Cond.code ({ cls := "RingDomino$Game", name := "groups", desc := "()I" } : Jvm.MethodName) prog_11_method_25_code (9 : Nat) (Option.some Jvm.ClassFile.FieldType.int)) ∈ lw_all := lw_g (lw_at lw_m9 62 rfl) rfl
theorem q2088 : (Jvm.Cond.instanceMethod ({ cls := "RingDomino$Game", name := "copy", desc := "(LRingDomino$Game;)LRingDomino$Game;" } : Jvm.MethodName)) ∈ lw_all := lw_g (lw_at lw_m9 69 rfl) rfl
theorem q2089 : (Jvm.Cond.selects "RingDomino$Game" ({ cls := "RingDomino$Game", name := "copy", desc := "(LRingDomino$Game;)LRingDomino$Game;" } : Jvm.MethodName) ({ cls := "RingDomino$Game", name := "copy", desc := "(LRingDomino$Game;)LRingDomino$Game;" } : Jvm.MethodName)) ∈ lw_all := lw_g (lw_at lw_m9 70 rfl) rfl
theorem q2090 : (Jvm.Cond.code ({ cls := "RingDomino$Game", name := "copy", desc := "(LRingDomino$Game;)LRingDomino$Game;" } : Jvm.MethodName) prog_11_method_30_code (2 : Nat) (Option.some (Jvm.ClassFile.FieldType.object "RingDomino$Game"))) ∈ lw_all := lw_g (lw_at lw_m9 71 rfl) rfl
theorem q2091 : (Jvm.Cond.methodLink "RingDomino$Game" (201 : Nat) ({ cls := "java/util/ArrayList", name := "clear", desc := "()V" } : Jvm.MethodName)) ∈ lw_all := lw_g (lw_at lw_m9 72 rfl) rfl
theorem q2095 : (Jvm.Cond.methodLink "RingDomino$Game" (204 : Nat) ({ cls := "java/util/ArrayList", name := "addAll", desc := "(Ljava/util/Collection;)Z" } : Jvm.MethodName)) ∈ lw_all := lw_g (lw_at lw_m9 76 rfl) rfl
theorem q2110 : (Jvm.Cond.methodLink "RingDomino$Game" (208 : Nat) ({ cls := "java/lang/System", name := "arraycopy", desc := "(Ljava/lang/Object;ILjava/lang/Object;II)V" } : Jvm.MethodName)) ∈ lw_all := lw_g (lw_at lw_m9 91 rfl) rfl
theorem q2112 : (Jvm.Cond.instanceMethod ({ cls := "RingDomino$Game", name := "play", desc := "(I)V" } : Jvm.MethodName)) ∈ lw_all := lw_g (lw_at lw_m9 93 rfl) rfl
theorem q2113 : (Jvm.Cond.selects "RingDomino$Game" ({ cls := "RingDomino$Game", name := "play", desc := "(I)V" } : Jvm.MethodName) ({ cls := "RingDomino$Game", name := "play", desc := "(I)V" } : Jvm.MethodName)) ∈ lw_all := lw_g (lw_at lw_m9 94 rfl) rfl
theorem q2114 : (Jvm.Cond.code ({ cls := "RingDomino$Game", name := "play", desc := "(I)V" } : Jvm.MethodName) prog_11_method_26_code (5 : Nat) (Option.none : Option Jvm.ClassFile.FieldType)) ∈ lw_all := lw_g (lw_at lw_m9 95 rfl) rfl
theorem q2115 : (Jvm.Cond.methodLink "RingDomino$Game" (139 : Nat) ({ cls := "java/util/ArrayList", name := "iterator", desc := "()Ljava/util/Iterator;" } : Jvm.MethodName)) ∈ lw_all := lw_g (lw_at lw_m9 96 rfl) rfl
theorem q2138 : (Jvm.Cond.interfaceEntry "RingDomino$Game" (143 : Nat)) ∈ lw_tbl := lw_at lw_m9 119 rfl
theorem q2139 : (Jvm.Cond.methodLink "RingDomino$Game" (143 : Nat) ({ cls := "java/util/Iterator", name := "hasNext", desc := "()Z" } : Jvm.MethodName)) ∈ lw_all := lw_g (lw_at lw_m9 120 rfl) rfl
theorem q2148 : (Jvm.Cond.interfaceEntry "RingDomino$Game" (148 : Nat)) ∈ lw_tbl := lw_at lw_m9 129 rfl
theorem q2149 : (Jvm.Cond.methodLink "RingDomino$Game" (148 : Nat) ({ cls := "java/util/Iterator", name := "next", desc := "()Ljava/lang/Object;" } : Jvm.MethodName)) ∈ lw_all := lw_g (lw_at lw_m9 130 rfl) rfl
theorem q2161 : (Jvm.Cond.classLink "RingDomino$Game" (152 : Nat) "RingDomino$Order") ∈ lw_all := lw_g (lw_at lw_m9 142 rfl) rfl
theorem q2162 : (Jvm.Cond.interfaceEntry "RingDomino$Game" (158 : Nat)) ∈ lw_tbl := lw_at lw_m9 143 rfl
theorem q2163 : (Jvm.Cond.methodLink "RingDomino$Game" (158 : Nat) ({ cls := "RingDomino$Test", name := "holds", desc := "(LRingDomino$Game;)Z" } : Jvm.MethodName)) ∈ lw_all := lw_g (lw_at lw_m9 144 rfl) rfl
theorem q2209 : (Jvm.Cond.instanceMethod ({ cls := "RingDomino$Game", name := "ways", desc := "(I)I" } : Jvm.MethodName)) ∈ lw_all := lw_g (lw_at lw_m9 190 rfl) rfl
theorem q2210 : (Jvm.Cond.selects "RingDomino$Game" ({ cls := "RingDomino$Game", name := "ways", desc := "(I)I" } : Jvm.MethodName) ({ cls := "RingDomino$Game", name := "ways", desc := "(I)I" } : Jvm.MethodName)) ∈ lw_all := lw_g (lw_at lw_m9 191 rfl) rfl
theorem q2211 : (Jvm.Cond.code ({ cls := "RingDomino$Game", name := "ways", desc := "(I)I" } : Jvm.MethodName) prog_11_method_12_code (5 : Nat) (Option.some Jvm.ClassFile.FieldType.int)) ∈ lw_all := lw_g (lw_at lw_m9 192 rfl) rfl
theorem q2212 : (Jvm.Cond.methodLink "RingDomino$Game" (88 : Nat) ({ cls := "RingDomino$Game", name := "fits", desc := "(III)Z" } : Jvm.MethodName)) ∈ lw_all := lw_g (lw_at lw_m9 193 rfl) rfl
theorem q2213 : (Jvm.Cond.instanceMethod ({ cls := "RingDomino$Game", name := "fits", desc := "(III)Z" } : Jvm.MethodName)) ∈ lw_all := lw_g (lw_at lw_m9 194 rfl) rfl
theorem q2214 : (Jvm.Cond.selects "RingDomino$Game" ({ cls := "RingDomino$Game", name := "fits", desc := "(III)Z" } : Jvm.MethodName) ({ cls := "RingDomino$Game", name := "fits", desc := "(III)Z" } : Jvm.MethodName)) ∈ lw_all := lw_g (lw_at lw_m9 195 rfl) rfl
theorem q2215 : (Jvm.Cond.code ({ cls := "RingDomino$Game", name := "fits", desc := "(III)Z" } : Jvm.MethodName) prog_11_method_11_code (4 : Nat) (Option.some Jvm.ClassFile.FieldType.boolean)) ∈ lw_all := lw_g (lw_at lw_m9 196 rfl) rfl
theorem q2216 : (Jvm.Cond.methodLink "RingDomino$Game" (74 : Nat) ({ cls := "RingDomino$Game", name := "isPlaced", desc := "(I)Z" } : Jvm.MethodName)) ∈ lw_all := lw_g (lw_at lw_m9 197 rfl) rfl
theorem q2217 : (Jvm.Cond.instanceMethod ({ cls := "RingDomino$Game", name := "isPlaced", desc := "(I)Z" } : Jvm.MethodName)) ∈ lw_all := lw_g (lw_at lw_m9 198 rfl) rfl
theorem q2218 : (Jvm.Cond.selects "RingDomino$Game" ({ cls := "RingDomino$Game", name := "isPlaced", desc := "(I)Z" } : Jvm.MethodName) ({ cls := "RingDomino$Game", name := "isPlaced", desc := "(I)Z" } : Jvm.MethodName)) ∈ lw_all := lw_g (lw_at lw_m9 199 rfl) rfl
theorem q2219 : (Jvm.Cond.code ({ cls := "RingDomino$Game", name := "isPlaced", desc := "(I)Z" } : Jvm.MethodName) prog_11_method_7_code (2 : Nat) (Option.some Jvm.ClassFile.FieldType.boolean)) ∈ lw_all := lw_g (lw_at lw_m9 200 rfl) rfl
theorem q2220 : (Jvm.Cond.methodLink "RingDomino$Game" (81 : Nat) ({ cls := "RingDomino$Game", name := "placed", desc := "()I" } : Jvm.MethodName)) ∈ lw_all := lw_g (lw_at lw_m9 201 rfl) rfl
theorem q2221 : (Jvm.Cond.methodLink "RingDomino$Game" (84 : Nat) ({ cls := "RingDomino$Game", name := "against", desc := "(III)I" } : Jvm.MethodName)) ∈ lw_all := lw_g (lw_at lw_m9 202 rfl) rfl
theorem q2222 : (Jvm.Cond.instanceMethod ({ cls := "RingDomino$Game", name := "against", desc := "(III)I" } : Jvm.MethodName)) ∈ lw_all := lw_g (lw_at lw_m9 203 rfl) rfl
theorem q2223 : (Jvm.Cond.selects "RingDomino$Game" ({ cls := "RingDomino$Game", name := "against", desc := "(III)I" } : Jvm.MethodName) ({ cls := "RingDomino$Game", name := "against", desc := "(III)I" } : Jvm.MethodName)) ∈ lw_all := lw_g (lw_at lw_m9 204 rfl) rfl
theorem q2224 : (Jvm.Cond.code ({ cls := "RingDomino$Game", name := "against", desc := "(III)I" } : Jvm.MethodName) prog_11_method_10_code (6 : Nat) (Option.some Jvm.ClassFile.FieldType.int)) ∈ lw_all := lw_g (lw_at lw_m9 205 rfl) rfl
theorem q2301 : (Jvm.Cond.methodLink "RingDomino$Game" (168 : Nat) ({ cls := "RingDomino$Craft", name := "carry", desc := "(LRingDomino$Game;LRingDomino$Order;)Z" } : Jvm.MethodName)) ∈ lw_all := lw_g (lw_at lw_m10 42 rfl) rfl
theorem q2313 : (Jvm.Cond.instanceMethod ({ cls := "RingDomino$Game", name := "put", desc := "(III)Z" } : Jvm.MethodName)) ∈ lw_all := lw_g (lw_at lw_m10 54 rfl) rfl
theorem q2314 : (Jvm.Cond.selects "RingDomino$Game" ({ cls := "RingDomino$Game", name := "put", desc := "(III)Z" } : Jvm.MethodName) ({ cls := "RingDomino$Game", name := "put", desc := "(III)Z" } : Jvm.MethodName)) ∈ lw_all := lw_g (lw_at lw_m10 55 rfl) rfl
theorem q2315 : (Jvm.Cond.code ({ cls := "RingDomino$Game", name := "put", desc := "(III)Z" } : Jvm.MethodName) prog_11_method_16_code (4 : Nat) (Option.some Jvm.ClassFile.FieldType.boolean)) ∈ lw_all := lw_g (lw_at lw_m10 56 rfl) rfl
theorem q2316 : (Jvm.Cond.methodLink "RingDomino$Game" (114 : Nat) ({ cls := "java/util/ArrayList", name := "set", desc := "(ILjava/lang/Object;)Ljava/lang/Object;" } : Jvm.MethodName)) ∈ lw_all := lw_g (lw_at lw_m10 57 rfl) rfl
theorem q2325 : (Jvm.Cond.instanceMethod ({ cls := "RingDomino$Game", name := "take", desc := "(I)Z" } : Jvm.MethodName)) ∈ lw_all := lw_g (lw_at lw_m10 66 rfl) rfl
theorem q2326 : (Jvm.Cond.selects "RingDomino$Game" ({ cls := "RingDomino$Game", name := "take", desc := "(I)Z" } : Jvm.MethodName) ({ cls := "RingDomino$Game", name := "take", desc := "(I)Z" } : Jvm.MethodName)) ∈ lw_all := lw_g (lw_at lw_m10 67 rfl) rfl
theorem q2327 : (Jvm.Cond.code ({ cls := "RingDomino$Game", name := "take", desc := "(I)Z" } : Jvm.MethodName) prog_11_method_18_code (2 : Nat) (Option.some Jvm.ClassFile.FieldType.boolean)) ∈ lw_all := lw_g (lw_at lw_m10 68 rfl) rfl
theorem q2332 : (Jvm.Cond.instanceMethod ({ cls := "RingDomino$Game", name := "firstWay", desc := "(I)Ljava/util/Optional;" } : Jvm.MethodName)) ∈ lw_all := lw_g (lw_at lw_m10 73 rfl) rfl
theorem q2333 : (Jvm.Cond.selects "RingDomino$Game" ({ cls := "RingDomino$Game", name := "firstWay", desc := "(I)Ljava/util/Optional;" } : Jvm.MethodName) ({ cls := "RingDomino$Game", name := "firstWay", desc := "(I)Ljava/util/Optional;" } : Jvm.MethodName)) ∈ lw_all := lw_g (lw_at lw_m10 74 rfl) rfl
theorem q2334 : (Jvm.Cond.code ({ cls := "RingDomino$Game", name := "firstWay", desc := "(I)Ljava/util/Optional;" } : Jvm.MethodName) prog_11_method_13_code (4 : Nat) (Option.some (Jvm.ClassFile.FieldType.object "java/util/Optional"))) ∈ lw_all := lw_g (lw_at lw_m10 75 rfl) rfl
theorem q2335 : (Jvm.Cond.classLink "RingDomino$Game" (92 : Nat) "RingDomino$Way") ∈ lw_all := lw_g (lw_at lw_m10 76 rfl) rfl
theorem q2337 : (Jvm.Cond.methodLink "RingDomino$Game" (94 : Nat) ({ cls := "RingDomino$Way", name := "<init>", desc := "(II)V" } : Jvm.MethodName)) ∈ lw_all := lw_g (lw_at lw_m10 78 rfl) rfl
theorem q2342 : (Jvm.Cond.fieldLinkNest "RingDomino$Game" (118 : Nat) "RingDomino$Way" "cell" "I" "RingDomino") ∈ lw_tbl := lw_at lw_m10 83 rfl
theorem q2345 : (Jvm.Cond.fieldLinkNest "RingDomino$Game" (121 : Nat) "RingDomino$Way" "turn" "I" "RingDomino") ∈ lw_tbl := lw_at lw_m10 86 rfl
theorem q2352 : (Jvm.Cond.methodLink "RingDomino$Game" (97 : Nat) ({ cls := "java/util/Optional", name := "of", desc := "(Ljava/lang/Object;)Ljava/util/Optional;" } : Jvm.MethodName)) ∈ lw_all := lw_g (lw_at lw_m10 93 rfl) rfl
theorem q2368 : (Jvm.Cond.methodLink "RingDomino$Game" (103 : Nat) ({ cls := "java/util/Optional", name := "empty", desc := "()Ljava/util/Optional;" } : Jvm.MethodName)) ∈ lw_all := lw_g (lw_at lw_m10 109 rfl) rfl
theorem q2383 : (Jvm.Cond.instanceMethod ({ cls := "RingDomino$Game", name := "put", desc := "(ILRingDomino$Way;)Z" } : Jvm.MethodName)) ∈ lw_all := lw_g (lw_at lw_m10 124 rfl) rfl
theorem q2384 : (Jvm.Cond.selects "RingDomino$Game" ({ cls := "RingDomino$Game", name := "put", desc := "(ILRingDomino$Way;)Z" } : Jvm.MethodName) ({ cls := "RingDomino$Game", name := "put", desc := "(ILRingDomino$Way;)Z" } : Jvm.MethodName)) ∈ lw_all := lw_g (lw_at lw_m10 125 rfl) rfl
theorem q2385 : (Jvm.Cond.code ({ cls := "RingDomino$Game", name := "put", desc := "(ILRingDomino$Way;)Z" } : Jvm.MethodName) prog_11_method_17_code (3 : Nat) (Option.some Jvm.ClassFile.FieldType.boolean)) ∈ lw_all := lw_g (lw_at lw_m10 126 rfl) rfl
theorem q2386 : (Jvm.Cond.methodLink "RingDomino$Game" (124 : Nat) ({ cls := "RingDomino$Game", name := "put", desc := "(III)Z" } : Jvm.MethodName)) ∈ lw_all := lw_g (lw_at lw_m10 127 rfl) rfl
theorem q2392 : (Jvm.Cond.instanceMethod ({ cls := "RingDomino$Game", name := "bestTile", desc := "()I" } : Jvm.MethodName)) ∈ lw_all := lw_g (lw_at lw_m10 133 rfl) rfl
theorem q2393 : (Jvm.Cond.selects "RingDomino$Game" ({ cls := "RingDomino$Game", name := "bestTile", desc := "()I" } : Jvm.MethodName) ({ cls := "RingDomino$Game", name := "bestTile", desc := "()I" } : Jvm.MethodName)) ∈ lw_all := lw_g (lw_at lw_m10 134 rfl) rfl
theorem q2394 : (Jvm.Cond.code ({ cls := "RingDomino$Game", name := "bestTile", desc := "()I" } : Jvm.MethodName) prog_11_method_29_code (5 : Nat) (Option.some Jvm.ClassFile.FieldType.int)) ∈ lw_all := lw_g (lw_at lw_m10 135 rfl) rfl
theorem q2395 : (Jvm.Cond.methodLink "RingDomino$Game" (189 : Nat) ({ cls := "java/util/ArrayList", name := "size", desc := "()I" } : Jvm.MethodName)) ∈ lw_all := lw_g (lw_at lw_m10 136 rfl) rfl
theorem q2396 : (Jvm.Cond.methodLink "RingDomino$Game" (192 : Nat) ({ cls := "RingDomino$Game", name := "bestWay", desc := "(I)Ljava/util/Optional;" } : Jvm.MethodName)) ∈ lw_all := lw_g (lw_at lw_m10 137 rfl) rfl
theorem q2397 : (Jvm.Cond.instanceMethod ({ cls := "RingDomino$Game", name := "bestWay", desc := "(I)Ljava/util/Optional;" } : Jvm.MethodName)) ∈ lw_all := lw_g (lw_at lw_m10 138 rfl) rfl
theorem q2398 : (Jvm.Cond.selects "RingDomino$Game" ({ cls := "RingDomino$Game", name := "bestWay", desc := "(I)Ljava/util/Optional;" } : Jvm.MethodName) ({ cls := "RingDomino$Game", name := "bestWay", desc := "(I)Ljava/util/Optional;" } : Jvm.MethodName)) ∈ lw_all := lw_g (lw_at lw_m10 139 rfl) rfl
theorem q2399 : (Jvm.Cond.code ({ cls := "RingDomino$Game", name := "bestWay", desc := "(I)Ljava/util/Optional;" } : Jvm.MethodName) prog_11_method_28_code (7 : Nat) (Option.some (Jvm.ClassFile.FieldType.object "java/util/Optional"))) ∈ lw_all := lw_g (lw_at lw_m10 140 rfl) rfl
theorem q2400 : (Jvm.Cond.methodLink "RingDomino$Game" (186 : Nat) ({ cls := "RingDomino$Game", name := "pointsWith", desc := "(III)I" } : Jvm.MethodName)) ∈ lw_all := lw_g (lw_at lw_m10 141 rfl) rfl
theorem q2401 : (Jvm.Cond.privateMethod ({ cls := "RingDomino$Game", name := "pointsWith", desc := "(III)I" } : Jvm.MethodName)) ∈ lw_tbl := lw_at lw_m10 142 rfl
theorem q2402 : (Jvm.Cond.instanceMethod ({ cls := "RingDomino$Game", name := "pointsWith", desc := "(III)I" } : Jvm.MethodName)) ∈ lw_all := lw_g (lw_at lw_m10 143 rfl) rfl
theorem q2403 : (Jvm.Cond.code ({ cls := "RingDomino$Game", name := "pointsWith", desc := "(III)I" } : Jvm.MethodName) prog_11_method_27_code (5 : Nat) (Option.some Jvm.ClassFile.FieldType.int)) ∈ lw_all := lw_g (lw_at lw_m10 144 rfl) rfl
theorem q2404 : (Jvm.Cond.methodLink "RingDomino$Game" (180 : Nat) ({ cls := "RingDomino$Game", name := "points", desc := "()I" } : Jvm.MethodName)) ∈ lw_all := lw_g (lw_at lw_m10 145 rfl) rfl
theorem q2405 : (Jvm.Cond.methodLink "RingDomino$Game" (183 : Nat) ({ cls := "RingDomino$Game", name := "take", desc := "(I)Z" } : Jvm.MethodName)) ∈ lw_all := lw_g (lw_at lw_m10 146 rfl) rfl
theorem q2406 : (Jvm.Cond.methodLink "RingDomino$Game" (196 : Nat) ({ cls := "java/util/Optional", name := "isPresent", desc := "()Z" } : Jvm.MethodName)) ∈ lw_all := lw_g (lw_at lw_m10 147 rfl) rfl
theorem q2407 : (Jvm.Cond.methodLink "RingDomino$Game" (199 : Nat) ({ cls := "java/util/Optional", name := "get", desc := "()Ljava/lang/Object;" } : Jvm.MethodName)) ∈ lw_all := lw_g (lw_at lw_m10 148 rfl) rfl
theorem q2486 : (Jvm.Cond.instanceMethod ({ cls := "RingDomino$Game", name := "isLeft", desc := "(I)Z" } : Jvm.MethodName)) ∈ lw_all := lw_g (lw_at lw_m10 227 rfl) rfl
theorem q2487 : (Jvm.Cond.selects "RingDomino$Game" ({ cls := "RingDomino$Game", name := "isLeft", desc := "(I)Z" } : Jvm.MethodName) ({ cls := "RingDomino$Game", name := "isLeft", desc := "(I)Z" } : Jvm.MethodName)) ∈ lw_all := lw_g (lw_at lw_m10 228 rfl) rfl
theorem q2488 : (Jvm.Cond.code ({ cls := "RingDomino$Game", name := "isLeft", desc := "(I)Z" } : Jvm.MethodName) prog_11_method_14_code (2 : Nat) (Option.some Jvm.ClassFile.FieldType.boolean)) ∈ lw_all := lw_g (lw_at lw_m10 229 rfl) rfl
theorem q2489 : (Jvm.Cond.methodLink "RingDomino$Game" (107 : Nat) ({ cls := "RingDomino$Game", name := "ways", desc := "(I)I" } : Jvm.MethodName)) ∈ lw_all := lw_g (lw_at lw_m10 230 rfl) rfl
theorem q2650 : (Jvm.Cond.instanceMethod ({ cls := "RingDomino$Game", name := "looks", desc := "(I)I" } : Jvm.MethodName)) ∈ lw_all := lw_g (lw_at lw_m11 151 rfl) rfl
theorem q2651 : (Jvm.Cond.selects "RingDomino$Game" ({ cls := "RingDomino$Game", name := "looks", desc := "(I)I" } : Jvm.MethodName) ({ cls := "RingDomino$Game", name := "looks", desc := "(I)I" } : Jvm.MethodName)) ∈ lw_all := lw_g (lw_at lw_m11 152 rfl) rfl
theorem q2652 : (Jvm.Cond.code ({ cls := "RingDomino$Game", name := "looks", desc := "(I)I" } : Jvm.MethodName) prog_11_method_15_code (4 : Nat) (Option.some Jvm.ClassFile.FieldType.int)) ∈ lw_all := lw_g (lw_at lw_m11 153 rfl) rfl
theorem q2653 : (Jvm.Cond.methodLink "RingDomino$Game" (110 : Nat) ({ cls := "RingDomino$Tile", name := "isAlike", desc := "()Z" } : Jvm.MethodName)) ∈ lw_all := lw_g (lw_at lw_m11 154 rfl) rfl
theorem q3404 : (Jvm.Cond.castable "RingDomino$Game" "java/lang/Object") ∈ lw_tbl := lw_at lw_m14 185 rfl
theorem in_X3 : ∀ w ∈ wsX30, w ∈ lw_all := lw_in wsX30 [248, 250, 252, 254, 256, 258, 260, 262, 264] (by decide +kernel) (by decide +kernel)

/-! RingDominoModel$Told -/
def RX5 : String := "RingDominoModel$Told"
def TX5 : u_T := fun k => match k with
  | 0 => ("RingDominoModel$Told", "columns", "I", false)
  | 1 => ("RingDominoModel$Told", "rows", "I", false)
  | 2 => ("RingDominoModel$Told", "tiles", "I", false)
  | 3 => ("RingDominoModel$Told", "numbers", "[I", true)
  | 4 => ("RingDominoModel$Told", "orders", "I", false)
  | 5 => ("RingDominoModel$Told", "does", "[I", true)
  | 6 => ("RingDominoModel$Told", "tile", "[I", true)
  | 7 => ("RingDominoModel$Told", "from", "[I", true)
  | 8 => ("RingDominoModel$Told", "to", "[I", true)
  | 9 => ("RingDominoModel$Told", "sums", "[I", true)
  | 10 => ("RingDominoModel$Told", "test", "[I", true)
  | 11 => ("RingDominoModel$Told", "nodes", "I", false)
  | 12 => ("RingDominoModel$Told", "sort", "[I", true)
  | 13 => ("RingDominoModel$Told", "left", "[I", true)
  | _ => ("RingDominoModel$Told", "right", "[I", true)
def tyX5 : Nat → FieldType := fun k => match k with
  | 0 => .int
  | 1 => .int
  | 2 => .int
  | 3 => .array .int
  | 4 => .int
  | 5 => .array .int
  | 6 => .array .int
  | 7 => .array .int
  | 8 => .array .int
  | 9 => .array .int
  | 10 => .array .int
  | 11 => .int
  | 12 => .array .int
  | 13 => .array .int
  | _ => .array .int
abbrev wsX50 : List Cond := u_ws RX5 TX5 15
set_option maxRecDepth 100000 in
theorem nmX5 : ∀ a, a < 15 → ∀ b, b < 15 → a ≠ b → (TX5 a).2.1 ≠ (TX5 b).2.1 := by decide +kernel
set_option maxRecDepth 100000 in
theorem tyX5_ok : ∀ k, k < 15 → parseFieldDescriptor (TX5 k).2.2.1 = some (tyX5 k) := by decide +kernel
abbrev cX5_init : ByteArray := prog_47_method_1_code
def yX5_init : MethodName := ⟨RX5, "<init>", "()V"⟩
def dkwX5_init_4 : List UInt8 := [181, 0, 46, 177]
abbrev dktX5_init_4 : List UInt8 := dkwX5_init_4 ++ []
def dkwX5_init_3 : List UInt8 := [17, 3, 32, 188, 10, 181, 0, 40, 42, 17, 3, 32, 188, 10, 181, 0, 43, 42, 17, 3, 32, 188, 10]
abbrev dktX5_init_3 : List UInt8 := dkwX5_init_3 ++ dktX5_init_4
def dkwX5_init_2 : List UInt8 := [16, 17, 188, 10, 181, 0, 31, 42, 16, 51, 188, 10, 181, 0, 34, 42, 16, 17, 188, 10, 181, 0, 37, 42]
abbrev dktX5_init_2 : List UInt8 := dkwX5_init_2 ++ dktX5_init_3
def dkwX5_init_1 : List UInt8 := [16, 17, 188, 10, 181, 0, 22, 42, 16, 17, 188, 10, 181, 0, 25, 42, 16, 17, 188, 10, 181, 0, 28, 42]
abbrev dktX5_init_1 : List UInt8 := dkwX5_init_1 ++ dktX5_init_2
def dkwX5_init_0 : List UInt8 := [42, 183, 0, 3, 42, 8, 181, 0, 9, 42, 8, 181, 0, 15, 42, 16, 51, 188, 10, 181, 0, 18, 42]
abbrev dktX5_init_0 : List UInt8 := dkwX5_init_0 ++ dktX5_init_1
theorem dksX5_init_0 : cX5_init.data.toList.drop 0 = dktX5_init_0 := by decide +kernel
theorem dksX5_init_1 : cX5_init.data.toList.drop 23 = dktX5_init_1 := dk_seg dksX5_init_0 23 rfl rfl
theorem dksX5_init_2 : cX5_init.data.toList.drop 47 = dktX5_init_2 := dk_seg dksX5_init_1 24 rfl rfl
theorem dksX5_init_3 : cX5_init.data.toList.drop 71 = dktX5_init_3 := dk_seg dksX5_init_2 24 rfl rfl
theorem dksX5_init_4 : cX5_init.data.toList.drop 94 = dktX5_init_4 := dk_seg dksX5_init_3 23 rfl rfl
theorem dX5_init_0 : decode cX5_init 0 = .ok (.aload_n 0, 1) := dk_42 (dk_at dksX5_init_0 0 rfl rfl)
theorem dX5_init_1 : decode cX5_init 1 = .ok (.invokespecial 3, 3) := dk_183 0 3 (dk_at dksX5_init_0 1 rfl rfl)
theorem dX5_init_4 : decode cX5_init 4 = .ok (.aload_n 0, 1) := dk_42 (dk_at dksX5_init_0 4 rfl rfl)
theorem dX5_init_5 : decode cX5_init 5 = .ok (.iconst 5, 1) := dk_8 (dk_at dksX5_init_0 5 rfl rfl)
theorem dX5_init_6 : decode cX5_init 6 = .ok (.putfield 9, 3) := dk_181 0 9 (dk_at dksX5_init_0 6 rfl rfl)
theorem dX5_init_9 : decode cX5_init 9 = .ok (.aload_n 0, 1) := dk_42 (dk_at dksX5_init_0 9 rfl rfl)
theorem dX5_init_10 : decode cX5_init 10 = .ok (.iconst 5, 1) := dk_8 (dk_at dksX5_init_0 10 rfl rfl)
theorem dX5_init_11 : decode cX5_init 11 = .ok (.putfield 15, 3) := dk_181 0 15 (dk_at dksX5_init_0 11 rfl rfl)
theorem dX5_init_14 : decode cX5_init 14 = .ok (.aload_n 0, 1) := dk_42 (dk_at dksX5_init_0 14 rfl rfl)
theorem dX5_init_15 : decode cX5_init 15 = .ok (.bipush 51, 2) := dk_16 51 (dk_at dksX5_init_0 15 rfl rfl)
theorem dX5_init_17 : decode cX5_init 17 = .ok (.newarray .int, 2) := dk_188_10 (dk_at dksX5_init_0 17 rfl rfl)
theorem dX5_init_19 : decode cX5_init 19 = .ok (.putfield 18, 3) := dk_181 0 18 (dk_at dksX5_init_0 19 rfl rfl)
theorem dX5_init_22 : decode cX5_init 22 = .ok (.aload_n 0, 1) := dk_42 (dk_at dksX5_init_0 22 rfl rfl)
theorem dX5_init_23 : decode cX5_init 23 = .ok (.bipush 17, 2) := dk_16 17 (dk_at dksX5_init_1 0 rfl rfl)
theorem dX5_init_25 : decode cX5_init 25 = .ok (.newarray .int, 2) := dk_188_10 (dk_at dksX5_init_1 2 rfl rfl)
theorem dX5_init_27 : decode cX5_init 27 = .ok (.putfield 22, 3) := dk_181 0 22 (dk_at dksX5_init_1 4 rfl rfl)
theorem dX5_init_30 : decode cX5_init 30 = .ok (.aload_n 0, 1) := dk_42 (dk_at dksX5_init_1 7 rfl rfl)
theorem dX5_init_31 : decode cX5_init 31 = .ok (.bipush 17, 2) := dk_16 17 (dk_at dksX5_init_1 8 rfl rfl)
theorem dX5_init_33 : decode cX5_init 33 = .ok (.newarray .int, 2) := dk_188_10 (dk_at dksX5_init_1 10 rfl rfl)
theorem dX5_init_35 : decode cX5_init 35 = .ok (.putfield 25, 3) := dk_181 0 25 (dk_at dksX5_init_1 12 rfl rfl)
theorem dX5_init_38 : decode cX5_init 38 = .ok (.aload_n 0, 1) := dk_42 (dk_at dksX5_init_1 15 rfl rfl)
theorem dX5_init_39 : decode cX5_init 39 = .ok (.bipush 17, 2) := dk_16 17 (dk_at dksX5_init_1 16 rfl rfl)
theorem dX5_init_41 : decode cX5_init 41 = .ok (.newarray .int, 2) := dk_188_10 (dk_at dksX5_init_1 18 rfl rfl)
theorem dX5_init_43 : decode cX5_init 43 = .ok (.putfield 28, 3) := dk_181 0 28 (dk_at dksX5_init_1 20 rfl rfl)
theorem dX5_init_46 : decode cX5_init 46 = .ok (.aload_n 0, 1) := dk_42 (dk_at dksX5_init_1 23 rfl rfl)
theorem dX5_init_47 : decode cX5_init 47 = .ok (.bipush 17, 2) := dk_16 17 (dk_at dksX5_init_2 0 rfl rfl)
theorem dX5_init_49 : decode cX5_init 49 = .ok (.newarray .int, 2) := dk_188_10 (dk_at dksX5_init_2 2 rfl rfl)
theorem dX5_init_51 : decode cX5_init 51 = .ok (.putfield 31, 3) := dk_181 0 31 (dk_at dksX5_init_2 4 rfl rfl)
theorem dX5_init_54 : decode cX5_init 54 = .ok (.aload_n 0, 1) := dk_42 (dk_at dksX5_init_2 7 rfl rfl)
theorem dX5_init_55 : decode cX5_init 55 = .ok (.bipush 51, 2) := dk_16 51 (dk_at dksX5_init_2 8 rfl rfl)
theorem dX5_init_57 : decode cX5_init 57 = .ok (.newarray .int, 2) := dk_188_10 (dk_at dksX5_init_2 10 rfl rfl)
theorem dX5_init_59 : decode cX5_init 59 = .ok (.putfield 34, 3) := dk_181 0 34 (dk_at dksX5_init_2 12 rfl rfl)
theorem dX5_init_62 : decode cX5_init 62 = .ok (.aload_n 0, 1) := dk_42 (dk_at dksX5_init_2 15 rfl rfl)
theorem dX5_init_63 : decode cX5_init 63 = .ok (.bipush 17, 2) := dk_16 17 (dk_at dksX5_init_2 16 rfl rfl)
theorem dX5_init_65 : decode cX5_init 65 = .ok (.newarray .int, 2) := dk_188_10 (dk_at dksX5_init_2 18 rfl rfl)
theorem dX5_init_67 : decode cX5_init 67 = .ok (.putfield 37, 3) := dk_181 0 37 (dk_at dksX5_init_2 20 rfl rfl)
theorem dX5_init_70 : decode cX5_init 70 = .ok (.aload_n 0, 1) := dk_42 (dk_at dksX5_init_2 23 rfl rfl)
theorem dX5_init_71 : decode cX5_init 71 = .ok (.sipush 800, 3) := dk_17 3 32 (dk_at dksX5_init_3 0 rfl rfl)
theorem dX5_init_74 : decode cX5_init 74 = .ok (.newarray .int, 2) := dk_188_10 (dk_at dksX5_init_3 3 rfl rfl)
theorem dX5_init_76 : decode cX5_init 76 = .ok (.putfield 40, 3) := dk_181 0 40 (dk_at dksX5_init_3 5 rfl rfl)
theorem dX5_init_79 : decode cX5_init 79 = .ok (.aload_n 0, 1) := dk_42 (dk_at dksX5_init_3 8 rfl rfl)
theorem dX5_init_80 : decode cX5_init 80 = .ok (.sipush 800, 3) := dk_17 3 32 (dk_at dksX5_init_3 9 rfl rfl)
theorem dX5_init_83 : decode cX5_init 83 = .ok (.newarray .int, 2) := dk_188_10 (dk_at dksX5_init_3 12 rfl rfl)
theorem dX5_init_85 : decode cX5_init 85 = .ok (.putfield 43, 3) := dk_181 0 43 (dk_at dksX5_init_3 14 rfl rfl)
theorem dX5_init_88 : decode cX5_init 88 = .ok (.aload_n 0, 1) := dk_42 (dk_at dksX5_init_3 17 rfl rfl)
theorem dX5_init_89 : decode cX5_init 89 = .ok (.sipush 800, 3) := dk_17 3 32 (dk_at dksX5_init_3 18 rfl rfl)
theorem dX5_init_92 : decode cX5_init 92 = .ok (.newarray .int, 2) := dk_188_10 (dk_at dksX5_init_3 21 rfl rfl)
theorem dX5_init_94 : decode cX5_init 94 = .ok (.putfield 46, 3) := dk_181 0 46 (dk_at dksX5_init_4 0 rfl rfl)
theorem dX5_init_97 : decode cX5_init 97 = .ok (.return_, 1) := dk_177 (dk_at dksX5_init_4 3 rfl rfl)
abbrev cX5_begin : ByteArray := prog_47_method_2_code
def yX5_begin : MethodName := ⟨RX5, "begin", "()V"⟩
def dkwX5_begin_1 : List UInt8 := [181, 0, 55, 177]
abbrev dktX5_begin_1 : List UInt8 := dkwX5_begin_1 ++ []
def dkwX5_begin_0 : List UInt8 := [42, 8, 181, 0, 9, 42, 8, 181, 0, 15, 42, 3, 181, 0, 49, 42, 3, 181, 0, 52, 42, 3]
abbrev dktX5_begin_0 : List UInt8 := dkwX5_begin_0 ++ dktX5_begin_1
theorem dksX5_begin_0 : cX5_begin.data.toList.drop 0 = dktX5_begin_0 := by decide +kernel
theorem dksX5_begin_1 : cX5_begin.data.toList.drop 22 = dktX5_begin_1 := dk_seg dksX5_begin_0 22 rfl rfl
theorem dX5_begin_0 : decode cX5_begin 0 = .ok (.aload_n 0, 1) := dk_42 (dk_at dksX5_begin_0 0 rfl rfl)
theorem dX5_begin_1 : decode cX5_begin 1 = .ok (.iconst 5, 1) := dk_8 (dk_at dksX5_begin_0 1 rfl rfl)
theorem dX5_begin_2 : decode cX5_begin 2 = .ok (.putfield 9, 3) := dk_181 0 9 (dk_at dksX5_begin_0 2 rfl rfl)
theorem dX5_begin_5 : decode cX5_begin 5 = .ok (.aload_n 0, 1) := dk_42 (dk_at dksX5_begin_0 5 rfl rfl)
theorem dX5_begin_6 : decode cX5_begin 6 = .ok (.iconst 5, 1) := dk_8 (dk_at dksX5_begin_0 6 rfl rfl)
theorem dX5_begin_7 : decode cX5_begin 7 = .ok (.putfield 15, 3) := dk_181 0 15 (dk_at dksX5_begin_0 7 rfl rfl)
theorem dX5_begin_10 : decode cX5_begin 10 = .ok (.aload_n 0, 1) := dk_42 (dk_at dksX5_begin_0 10 rfl rfl)
theorem dX5_begin_11 : decode cX5_begin 11 = .ok (.iconst 0, 1) := dk_3 (dk_at dksX5_begin_0 11 rfl rfl)
theorem dX5_begin_12 : decode cX5_begin 12 = .ok (.putfield 49, 3) := dk_181 0 49 (dk_at dksX5_begin_0 12 rfl rfl)
theorem dX5_begin_15 : decode cX5_begin 15 = .ok (.aload_n 0, 1) := dk_42 (dk_at dksX5_begin_0 15 rfl rfl)
theorem dX5_begin_16 : decode cX5_begin 16 = .ok (.iconst 0, 1) := dk_3 (dk_at dksX5_begin_0 16 rfl rfl)
theorem dX5_begin_17 : decode cX5_begin 17 = .ok (.putfield 52, 3) := dk_181 0 52 (dk_at dksX5_begin_0 17 rfl rfl)
theorem dX5_begin_20 : decode cX5_begin 20 = .ok (.aload_n 0, 1) := dk_42 (dk_at dksX5_begin_0 20 rfl rfl)
theorem dX5_begin_21 : decode cX5_begin 21 = .ok (.iconst 0, 1) := dk_3 (dk_at dksX5_begin_0 21 rfl rfl)
theorem dX5_begin_22 : decode cX5_begin 22 = .ok (.putfield 55, 3) := dk_181 0 55 (dk_at dksX5_begin_1 0 rfl rfl)
theorem dX5_begin_25 : decode cX5_begin 25 = .ok (.return_, 1) := dk_177 (dk_at dksX5_begin_1 3 rfl rfl)
abbrev cX5_become : ByteArray := prog_47_method_4_code
def yX5_become : MethodName := ⟨RX5, "become", "(LRingDominoModel$Told;)V"⟩
def dkwX5_become_6 : List UInt8 := [184, 0, 64, 43, 180, 0, 46, 42, 180, 0, 46, 184, 0, 64, 177]
abbrev dktX5_become_6 : List UInt8 := dkwX5_become_6 ++ []
def dkwX5_become_5 : List UInt8 := [184, 0, 64, 43, 180, 0, 40, 42, 180, 0, 40, 184, 0, 64, 43, 180, 0, 43, 42, 180, 0, 43]
abbrev dktX5_become_5 : List UInt8 := dkwX5_become_5 ++ dktX5_become_6
def dkwX5_become_4 : List UInt8 := [184, 0, 64, 43, 180, 0, 34, 42, 180, 0, 34, 184, 0, 64, 43, 180, 0, 37, 42, 180, 0, 37]
abbrev dktX5_become_4 : List UInt8 := dkwX5_become_4 ++ dktX5_become_5
def dkwX5_become_3 : List UInt8 := [184, 0, 64, 43, 180, 0, 28, 42, 180, 0, 28, 184, 0, 64, 43, 180, 0, 31, 42, 180, 0, 31]
abbrev dktX5_become_3 : List UInt8 := dkwX5_become_3 ++ dktX5_become_4
def dkwX5_become_2 : List UInt8 := [184, 0, 64, 43, 180, 0, 22, 42, 180, 0, 22, 184, 0, 64, 43, 180, 0, 25, 42, 180, 0, 25]
abbrev dktX5_become_2 : List UInt8 := dkwX5_become_2 ++ dktX5_become_3
def dkwX5_become_1 : List UInt8 := [42, 43, 180, 0, 52, 181, 0, 52, 42, 43, 180, 0, 55, 181, 0, 55, 43, 180, 0, 18, 42, 180, 0, 18]
abbrev dktX5_become_1 : List UInt8 := dkwX5_become_1 ++ dktX5_become_2
def dkwX5_become_0 : List UInt8 := [42, 43, 180, 0, 9, 181, 0, 9, 42, 43, 180, 0, 15, 181, 0, 15, 42, 43, 180, 0, 49, 181, 0, 49]
abbrev dktX5_become_0 : List UInt8 := dkwX5_become_0 ++ dktX5_become_1
theorem dksX5_become_0 : cX5_become.data.toList.drop 0 = dktX5_become_0 := by decide +kernel
theorem dksX5_become_1 : cX5_become.data.toList.drop 24 = dktX5_become_1 := dk_seg dksX5_become_0 24 rfl rfl
theorem dksX5_become_2 : cX5_become.data.toList.drop 48 = dktX5_become_2 := dk_seg dksX5_become_1 24 rfl rfl
theorem dksX5_become_3 : cX5_become.data.toList.drop 70 = dktX5_become_3 := dk_seg dksX5_become_2 22 rfl rfl
theorem dksX5_become_4 : cX5_become.data.toList.drop 92 = dktX5_become_4 := dk_seg dksX5_become_3 22 rfl rfl
theorem dksX5_become_5 : cX5_become.data.toList.drop 114 = dktX5_become_5 := dk_seg dksX5_become_4 22 rfl rfl
theorem dksX5_become_6 : cX5_become.data.toList.drop 136 = dktX5_become_6 := dk_seg dksX5_become_5 22 rfl rfl
theorem dX5_become_0 : decode cX5_become 0 = .ok (.aload_n 0, 1) := dk_42 (dk_at dksX5_become_0 0 rfl rfl)
theorem dX5_become_1 : decode cX5_become 1 = .ok (.aload_n 1, 1) := dk_43 (dk_at dksX5_become_0 1 rfl rfl)
theorem dX5_become_2 : decode cX5_become 2 = .ok (.getfield 9, 3) := dk_180 0 9 (dk_at dksX5_become_0 2 rfl rfl)
theorem dX5_become_5 : decode cX5_become 5 = .ok (.putfield 9, 3) := dk_181 0 9 (dk_at dksX5_become_0 5 rfl rfl)
theorem dX5_become_8 : decode cX5_become 8 = .ok (.aload_n 0, 1) := dk_42 (dk_at dksX5_become_0 8 rfl rfl)
theorem dX5_become_9 : decode cX5_become 9 = .ok (.aload_n 1, 1) := dk_43 (dk_at dksX5_become_0 9 rfl rfl)
theorem dX5_become_10 : decode cX5_become 10 = .ok (.getfield 15, 3) := dk_180 0 15 (dk_at dksX5_become_0 10 rfl rfl)
theorem dX5_become_13 : decode cX5_become 13 = .ok (.putfield 15, 3) := dk_181 0 15 (dk_at dksX5_become_0 13 rfl rfl)
theorem dX5_become_16 : decode cX5_become 16 = .ok (.aload_n 0, 1) := dk_42 (dk_at dksX5_become_0 16 rfl rfl)
theorem dX5_become_17 : decode cX5_become 17 = .ok (.aload_n 1, 1) := dk_43 (dk_at dksX5_become_0 17 rfl rfl)
theorem dX5_become_18 : decode cX5_become 18 = .ok (.getfield 49, 3) := dk_180 0 49 (dk_at dksX5_become_0 18 rfl rfl)
theorem dX5_become_21 : decode cX5_become 21 = .ok (.putfield 49, 3) := dk_181 0 49 (dk_at dksX5_become_0 21 rfl rfl)
theorem dX5_become_24 : decode cX5_become 24 = .ok (.aload_n 0, 1) := dk_42 (dk_at dksX5_become_1 0 rfl rfl)
theorem dX5_become_25 : decode cX5_become 25 = .ok (.aload_n 1, 1) := dk_43 (dk_at dksX5_become_1 1 rfl rfl)
theorem dX5_become_26 : decode cX5_become 26 = .ok (.getfield 52, 3) := dk_180 0 52 (dk_at dksX5_become_1 2 rfl rfl)
theorem dX5_become_29 : decode cX5_become 29 = .ok (.putfield 52, 3) := dk_181 0 52 (dk_at dksX5_become_1 5 rfl rfl)
theorem dX5_become_32 : decode cX5_become 32 = .ok (.aload_n 0, 1) := dk_42 (dk_at dksX5_become_1 8 rfl rfl)
theorem dX5_become_33 : decode cX5_become 33 = .ok (.aload_n 1, 1) := dk_43 (dk_at dksX5_become_1 9 rfl rfl)
theorem dX5_become_34 : decode cX5_become 34 = .ok (.getfield 55, 3) := dk_180 0 55 (dk_at dksX5_become_1 10 rfl rfl)
theorem dX5_become_37 : decode cX5_become 37 = .ok (.putfield 55, 3) := dk_181 0 55 (dk_at dksX5_become_1 13 rfl rfl)
theorem dX5_become_40 : decode cX5_become 40 = .ok (.aload_n 1, 1) := dk_43 (dk_at dksX5_become_1 16 rfl rfl)
theorem dX5_become_41 : decode cX5_become 41 = .ok (.getfield 18, 3) := dk_180 0 18 (dk_at dksX5_become_1 17 rfl rfl)
theorem dX5_become_44 : decode cX5_become 44 = .ok (.aload_n 0, 1) := dk_42 (dk_at dksX5_become_1 20 rfl rfl)
theorem dX5_become_45 : decode cX5_become 45 = .ok (.getfield 18, 3) := dk_180 0 18 (dk_at dksX5_become_1 21 rfl rfl)
theorem dX5_become_48 : decode cX5_become 48 = .ok (.invokestatic 64, 3) := dk_184 0 64 (dk_at dksX5_become_2 0 rfl rfl)
theorem dX5_become_51 : decode cX5_become 51 = .ok (.aload_n 1, 1) := dk_43 (dk_at dksX5_become_2 3 rfl rfl)
theorem dX5_become_52 : decode cX5_become 52 = .ok (.getfield 22, 3) := dk_180 0 22 (dk_at dksX5_become_2 4 rfl rfl)
theorem dX5_become_55 : decode cX5_become 55 = .ok (.aload_n 0, 1) := dk_42 (dk_at dksX5_become_2 7 rfl rfl)
theorem dX5_become_56 : decode cX5_become 56 = .ok (.getfield 22, 3) := dk_180 0 22 (dk_at dksX5_become_2 8 rfl rfl)
theorem dX5_become_59 : decode cX5_become 59 = .ok (.invokestatic 64, 3) := dk_184 0 64 (dk_at dksX5_become_2 11 rfl rfl)
theorem dX5_become_62 : decode cX5_become 62 = .ok (.aload_n 1, 1) := dk_43 (dk_at dksX5_become_2 14 rfl rfl)
theorem dX5_become_63 : decode cX5_become 63 = .ok (.getfield 25, 3) := dk_180 0 25 (dk_at dksX5_become_2 15 rfl rfl)
theorem dX5_become_66 : decode cX5_become 66 = .ok (.aload_n 0, 1) := dk_42 (dk_at dksX5_become_2 18 rfl rfl)
theorem dX5_become_67 : decode cX5_become 67 = .ok (.getfield 25, 3) := dk_180 0 25 (dk_at dksX5_become_2 19 rfl rfl)
theorem dX5_become_70 : decode cX5_become 70 = .ok (.invokestatic 64, 3) := dk_184 0 64 (dk_at dksX5_become_3 0 rfl rfl)
theorem dX5_become_73 : decode cX5_become 73 = .ok (.aload_n 1, 1) := dk_43 (dk_at dksX5_become_3 3 rfl rfl)
theorem dX5_become_74 : decode cX5_become 74 = .ok (.getfield 28, 3) := dk_180 0 28 (dk_at dksX5_become_3 4 rfl rfl)
theorem dX5_become_77 : decode cX5_become 77 = .ok (.aload_n 0, 1) := dk_42 (dk_at dksX5_become_3 7 rfl rfl)
theorem dX5_become_78 : decode cX5_become 78 = .ok (.getfield 28, 3) := dk_180 0 28 (dk_at dksX5_become_3 8 rfl rfl)
theorem dX5_become_81 : decode cX5_become 81 = .ok (.invokestatic 64, 3) := dk_184 0 64 (dk_at dksX5_become_3 11 rfl rfl)
theorem dX5_become_84 : decode cX5_become 84 = .ok (.aload_n 1, 1) := dk_43 (dk_at dksX5_become_3 14 rfl rfl)
theorem dX5_become_85 : decode cX5_become 85 = .ok (.getfield 31, 3) := dk_180 0 31 (dk_at dksX5_become_3 15 rfl rfl)
theorem dX5_become_88 : decode cX5_become 88 = .ok (.aload_n 0, 1) := dk_42 (dk_at dksX5_become_3 18 rfl rfl)
theorem dX5_become_89 : decode cX5_become 89 = .ok (.getfield 31, 3) := dk_180 0 31 (dk_at dksX5_become_3 19 rfl rfl)
theorem dX5_become_92 : decode cX5_become 92 = .ok (.invokestatic 64, 3) := dk_184 0 64 (dk_at dksX5_become_4 0 rfl rfl)
theorem dX5_become_95 : decode cX5_become 95 = .ok (.aload_n 1, 1) := dk_43 (dk_at dksX5_become_4 3 rfl rfl)
theorem dX5_become_96 : decode cX5_become 96 = .ok (.getfield 34, 3) := dk_180 0 34 (dk_at dksX5_become_4 4 rfl rfl)
theorem dX5_become_99 : decode cX5_become 99 = .ok (.aload_n 0, 1) := dk_42 (dk_at dksX5_become_4 7 rfl rfl)
theorem dX5_become_100 : decode cX5_become 100 = .ok (.getfield 34, 3) := dk_180 0 34 (dk_at dksX5_become_4 8 rfl rfl)
theorem dX5_become_103 : decode cX5_become 103 = .ok (.invokestatic 64, 3) := dk_184 0 64 (dk_at dksX5_become_4 11 rfl rfl)
theorem dX5_become_106 : decode cX5_become 106 = .ok (.aload_n 1, 1) := dk_43 (dk_at dksX5_become_4 14 rfl rfl)
theorem dX5_become_107 : decode cX5_become 107 = .ok (.getfield 37, 3) := dk_180 0 37 (dk_at dksX5_become_4 15 rfl rfl)
theorem dX5_become_110 : decode cX5_become 110 = .ok (.aload_n 0, 1) := dk_42 (dk_at dksX5_become_4 18 rfl rfl)
theorem dX5_become_111 : decode cX5_become 111 = .ok (.getfield 37, 3) := dk_180 0 37 (dk_at dksX5_become_4 19 rfl rfl)
theorem dX5_become_114 : decode cX5_become 114 = .ok (.invokestatic 64, 3) := dk_184 0 64 (dk_at dksX5_become_5 0 rfl rfl)
theorem dX5_become_117 : decode cX5_become 117 = .ok (.aload_n 1, 1) := dk_43 (dk_at dksX5_become_5 3 rfl rfl)
theorem dX5_become_118 : decode cX5_become 118 = .ok (.getfield 40, 3) := dk_180 0 40 (dk_at dksX5_become_5 4 rfl rfl)
theorem dX5_become_121 : decode cX5_become 121 = .ok (.aload_n 0, 1) := dk_42 (dk_at dksX5_become_5 7 rfl rfl)
theorem dX5_become_122 : decode cX5_become 122 = .ok (.getfield 40, 3) := dk_180 0 40 (dk_at dksX5_become_5 8 rfl rfl)
theorem dX5_become_125 : decode cX5_become 125 = .ok (.invokestatic 64, 3) := dk_184 0 64 (dk_at dksX5_become_5 11 rfl rfl)
theorem dX5_become_128 : decode cX5_become 128 = .ok (.aload_n 1, 1) := dk_43 (dk_at dksX5_become_5 14 rfl rfl)
theorem dX5_become_129 : decode cX5_become 129 = .ok (.getfield 43, 3) := dk_180 0 43 (dk_at dksX5_become_5 15 rfl rfl)
theorem dX5_become_132 : decode cX5_become 132 = .ok (.aload_n 0, 1) := dk_42 (dk_at dksX5_become_5 18 rfl rfl)
theorem dX5_become_133 : decode cX5_become 133 = .ok (.getfield 43, 3) := dk_180 0 43 (dk_at dksX5_become_5 19 rfl rfl)
theorem dX5_become_136 : decode cX5_become 136 = .ok (.invokestatic 64, 3) := dk_184 0 64 (dk_at dksX5_become_6 0 rfl rfl)
theorem dX5_become_139 : decode cX5_become 139 = .ok (.aload_n 1, 1) := dk_43 (dk_at dksX5_become_6 3 rfl rfl)
theorem dX5_become_140 : decode cX5_become 140 = .ok (.getfield 46, 3) := dk_180 0 46 (dk_at dksX5_become_6 4 rfl rfl)
theorem dX5_become_143 : decode cX5_become 143 = .ok (.aload_n 0, 1) := dk_42 (dk_at dksX5_become_6 7 rfl rfl)
theorem dX5_become_144 : decode cX5_become 144 = .ok (.getfield 46, 3) := dk_180 0 46 (dk_at dksX5_become_6 8 rfl rfl)
theorem dX5_become_147 : decode cX5_become 147 = .ok (.invokestatic 64, 3) := dk_184 0 64 (dk_at dksX5_become_6 11 rfl rfl)
theorem dX5_become_150 : decode cX5_become 150 = .ok (.return_, 1) := dk_177 (dk_at dksX5_become_6 14 rfl rfl)
abbrev cX5_copy : ByteArray := prog_47_method_3_code
def yX5_copy : MethodName := ⟨RX5, "copy", "([I[I)V"⟩
def dkwX5_copy_0 : List UInt8 := [42, 3, 43, 3, 43, 190, 184, 0, 58, 177]
abbrev dktX5_copy_0 : List UInt8 := dkwX5_copy_0 ++ []
theorem dksX5_copy_0 : cX5_copy.data.toList.drop 0 = dktX5_copy_0 := by decide +kernel
theorem dX5_copy_0 : decode cX5_copy 0 = .ok (.aload_n 0, 1) := dk_42 (dk_at dksX5_copy_0 0 rfl rfl)
theorem dX5_copy_1 : decode cX5_copy 1 = .ok (.iconst 0, 1) := dk_3 (dk_at dksX5_copy_0 1 rfl rfl)
theorem dX5_copy_2 : decode cX5_copy 2 = .ok (.aload_n 1, 1) := dk_43 (dk_at dksX5_copy_0 2 rfl rfl)
theorem dX5_copy_3 : decode cX5_copy 3 = .ok (.iconst 0, 1) := dk_3 (dk_at dksX5_copy_0 3 rfl rfl)
theorem dX5_copy_4 : decode cX5_copy 4 = .ok (.aload_n 1, 1) := dk_43 (dk_at dksX5_copy_0 4 rfl rfl)
theorem dX5_copy_5 : decode cX5_copy 5 = .ok (.arraylength, 1) := dk_190 (dk_at dksX5_copy_0 5 rfl rfl)
theorem dX5_copy_6 : decode cX5_copy 6 = .ok (.invokestatic 58, 3) := dk_184 0 58 (dk_at dksX5_copy_0 6 rfl rfl)
theorem dX5_copy_9 : decode cX5_copy 9 = .ok (.return_, 1) := dk_177 (dk_at dksX5_copy_0 9 rfl rfl)
theorem q107 : (Jvm.Cond.initialized "RingDominoModel$Told") ∈ lw_all := lw_g (lw_at lw_m1 8 rfl) rfl
theorem q825 : (Jvm.Cond.selects "RingDominoModel$Told" ({ cls := "java/lang/Object", name := "getClass", desc := "()Ljava/lang/Class;" } : Jvm.MethodName) ({ cls := "java/lang/Object", name := "getClass", desc := "()Ljava/lang/Class;" } : Jvm.MethodName)) ∈ lw_all := lw_g (lw_at lw_m4 6 rfl) rfl
theorem q1088 : (Jvm.Cond.selects "RingDominoModel$Told" ({ cls := "java/lang/Object", name := "hashCode", desc := "()I" } : Jvm.MethodName) ({ cls := "java/lang/Object", name := "hashCode", desc := "()I" } : Jvm.MethodName)) ∈ lw_all := lw_g (lw_at lw_m5 29 rfl) rfl
theorem q1205 : (Jvm.Cond.selects "RingDominoModel$Told" ({ cls := "java/lang/Object", name := "equals", desc := "(Ljava/lang/Object;)Z" } : Jvm.MethodName) ({ cls := "java/lang/Object", name := "equals", desc := "(Ljava/lang/Object;)Z" } : Jvm.MethodName)) ∈ lw_all := lw_g (lw_at lw_m5 146 rfl) rfl
theorem q2725 : (Jvm.Cond.instantiable "RingDominoModel$Told" (15 : Nat)) ∈ lw_all := lw_g (lw_at lw_m11 226 rfl) rfl
theorem q2727 : (Jvm.Cond.instanceMethod ({ cls := "RingDominoModel$Told", name := "<init>", desc := "()V" } : Jvm.MethodName)) ∈ lw_all := lw_g (lw_at lw_m11 228 rfl) rfl
theorem q2728 : (Jvm.Cond.code ({ cls := "RingDominoModel$Told", name := "<init>", desc := "()V" } : Jvm.MethodName) prog_47_method_1_code (1 : Nat) (Option.none : Option Jvm.ClassFile.FieldType)) ∈ lw_all := lw_g (lw_at lw_m11 229 rfl) rfl
theorem q2729 : (Jvm.Cond.methodLink "RingDominoModel$Told" (3 : Nat) ({ cls := "java/lang/Object", name := "<init>", desc := "()V" } : Jvm.MethodName)) ∈ lw_all := lw_g (lw_at lw_m11 230 rfl) rfl
theorem q2730 : (Jvm.Cond.fieldLink "RingDominoModel$Told" (9 : Nat) "RingDominoModel$Told" "columns" "I") ∈ lw_all := lw_g (lw_at lw_m11 231 rfl) rfl
theorem q2732 : (Jvm.Cond.fieldLink "RingDominoModel$Told" (15 : Nat) "RingDominoModel$Told" "rows" "I") ∈ lw_all := lw_g (lw_at lw_m11 233 rfl) rfl
theorem q2734 : (Jvm.Cond.fieldLink "RingDominoModel$Told" (49 : Nat) "RingDominoModel$Told" "tiles" "I") ∈ lw_all := lw_g (lw_at lw_m11 235 rfl) rfl
theorem q2736 : (Jvm.Cond.fieldLink "RingDominoModel$Told" (18 : Nat) "RingDominoModel$Told" "numbers" "[I") ∈ lw_all := lw_g (lw_at lw_m11 237 rfl) rfl
theorem q2738 : (Jvm.Cond.fieldLink "RingDominoModel$Told" (52 : Nat) "RingDominoModel$Told" "orders" "I") ∈ lw_all := lw_g (lw_at lw_m11 239 rfl) rfl
theorem q2740 : (Jvm.Cond.fieldLink "RingDominoModel$Told" (22 : Nat) "RingDominoModel$Told" "does" "[I") ∈ lw_all := lw_g (lw_at lw_m12 1 rfl) rfl
theorem q2742 : (Jvm.Cond.fieldLink "RingDominoModel$Told" (25 : Nat) "RingDominoModel$Told" "tile" "[I") ∈ lw_all := lw_g (lw_at lw_m12 3 rfl) rfl
theorem q2744 : (Jvm.Cond.fieldLink "RingDominoModel$Told" (28 : Nat) "RingDominoModel$Told" "from" "[I") ∈ lw_all := lw_g (lw_at lw_m12 5 rfl) rfl
theorem q2746 : (Jvm.Cond.fieldLink "RingDominoModel$Told" (31 : Nat) "RingDominoModel$Told" "to" "[I") ∈ lw_all := lw_g (lw_at lw_m12 7 rfl) rfl
theorem q2748 : (Jvm.Cond.fieldLink "RingDominoModel$Told" (34 : Nat) "RingDominoModel$Told" "sums" "[I") ∈ lw_all := lw_g (lw_at lw_m12 9 rfl) rfl
theorem q2750 : (Jvm.Cond.fieldLink "RingDominoModel$Told" (37 : Nat) "RingDominoModel$Told" "test" "[I") ∈ lw_all := lw_g (lw_at lw_m12 11 rfl) rfl
theorem q2752 : (Jvm.Cond.fieldLink "RingDominoModel$Told" (55 : Nat) "RingDominoModel$Told" "nodes" "I") ∈ lw_all := lw_g (lw_at lw_m12 13 rfl) rfl
theorem q2754 : (Jvm.Cond.fieldLink "RingDominoModel$Told" (40 : Nat) "RingDominoModel$Told" "sort" "[I") ∈ lw_all := lw_g (lw_at lw_m12 15 rfl) rfl
theorem q2756 : (Jvm.Cond.fieldLink "RingDominoModel$Told" (43 : Nat) "RingDominoModel$Told" "left" "[I") ∈ lw_all := lw_g (lw_at lw_m12 17 rfl) rfl
theorem q2758 : (Jvm.Cond.fieldLink "RingDominoModel$Told" (46 : Nat) "RingDominoModel$Told" "right" "[I") ∈ lw_all := lw_g (lw_at lw_m12 19 rfl) rfl
theorem q2760 : (Jvm.Cond.lays "RingDominoModel$Told" "RingDominoModel$Told" "columns" "I") ∈ lw_all := lw_g (lw_at lw_m12 21 rfl) rfl
theorem q2761 : (Jvm.Cond.soleField "RingDominoModel$Told" "columns") ∈ lw_all := lw_g (lw_at lw_m12 22 rfl) rfl
theorem q2762 : (Jvm.Cond.lays "RingDominoModel$Told" "RingDominoModel$Told" "rows" "I") ∈ lw_all := lw_g (lw_at lw_m12 23 rfl) rfl
theorem q2763 : (Jvm.Cond.soleField "RingDominoModel$Told" "rows") ∈ lw_all := lw_g (lw_at lw_m12 24 rfl) rfl
theorem q2764 : (Jvm.Cond.lays "RingDominoModel$Told" "RingDominoModel$Told" "tiles" "I") ∈ lw_all := lw_g (lw_at lw_m12 25 rfl) rfl
theorem q2765 : (Jvm.Cond.soleField "RingDominoModel$Told" "tiles") ∈ lw_all := lw_g (lw_at lw_m12 26 rfl) rfl
theorem q2766 : (Jvm.Cond.laysFinal "RingDominoModel$Told" "RingDominoModel$Told" "numbers" "[I") ∈ lw_all := lw_g (lw_at lw_m12 27 rfl) rfl
theorem q2767 : (Jvm.Cond.soleField "RingDominoModel$Told" "numbers") ∈ lw_all := lw_g (lw_at lw_m12 28 rfl) rfl
theorem q2768 : (Jvm.Cond.lays "RingDominoModel$Told" "RingDominoModel$Told" "orders" "I") ∈ lw_all := lw_g (lw_at lw_m12 29 rfl) rfl
theorem q2769 : (Jvm.Cond.soleField "RingDominoModel$Told" "orders") ∈ lw_all := lw_g (lw_at lw_m12 30 rfl) rfl
theorem q2770 : (Jvm.Cond.laysFinal "RingDominoModel$Told" "RingDominoModel$Told" "does" "[I") ∈ lw_all := lw_g (lw_at lw_m12 31 rfl) rfl
theorem q2771 : (Jvm.Cond.soleField "RingDominoModel$Told" "does") ∈ lw_all := lw_g (lw_at lw_m12 32 rfl) rfl
theorem q2772 : (Jvm.Cond.laysFinal "RingDominoModel$Told" "RingDominoModel$Told" "tile" "[I") ∈ lw_all := lw_g (lw_at lw_m12 33 rfl) rfl
theorem q2773 : (Jvm.Cond.soleField "RingDominoModel$Told" "tile") ∈ lw_all := lw_g (lw_at lw_m12 34 rfl) rfl
theorem q2774 : (Jvm.Cond.laysFinal "RingDominoModel$Told" "RingDominoModel$Told" "from" "[I") ∈ lw_all := lw_g (lw_at lw_m12 35 rfl) rfl
theorem q2775 : (Jvm.Cond.soleField "RingDominoModel$Told" "from") ∈ lw_all := lw_g (lw_at lw_m12 36 rfl) rfl
theorem q2776 : (Jvm.Cond.laysFinal "RingDominoModel$Told" "RingDominoModel$Told" "to" "[I") ∈ lw_all := lw_g (lw_at lw_m12 37 rfl) rfl
theorem q2777 : (Jvm.Cond.soleField "RingDominoModel$Told" "to") ∈ lw_all := lw_g (lw_at lw_m12 38 rfl) rfl
theorem q2778 : (Jvm.Cond.laysFinal "RingDominoModel$Told" "RingDominoModel$Told" "sums" "[I") ∈ lw_all := lw_g (lw_at lw_m12 39 rfl) rfl
theorem q2779 : (Jvm.Cond.soleField "RingDominoModel$Told" "sums") ∈ lw_all := lw_g (lw_at lw_m12 40 rfl) rfl
theorem q2780 : (Jvm.Cond.laysFinal "RingDominoModel$Told" "RingDominoModel$Told" "test" "[I") ∈ lw_all := lw_g (lw_at lw_m12 41 rfl) rfl
theorem q2781 : (Jvm.Cond.soleField "RingDominoModel$Told" "test") ∈ lw_all := lw_g (lw_at lw_m12 42 rfl) rfl
theorem q2782 : (Jvm.Cond.lays "RingDominoModel$Told" "RingDominoModel$Told" "nodes" "I") ∈ lw_all := lw_g (lw_at lw_m12 43 rfl) rfl
theorem q2783 : (Jvm.Cond.soleField "RingDominoModel$Told" "nodes") ∈ lw_all := lw_g (lw_at lw_m12 44 rfl) rfl
theorem q2784 : (Jvm.Cond.laysFinal "RingDominoModel$Told" "RingDominoModel$Told" "sort" "[I") ∈ lw_all := lw_g (lw_at lw_m12 45 rfl) rfl
theorem q2785 : (Jvm.Cond.soleField "RingDominoModel$Told" "sort") ∈ lw_all := lw_g (lw_at lw_m12 46 rfl) rfl
theorem q2786 : (Jvm.Cond.laysFinal "RingDominoModel$Told" "RingDominoModel$Told" "left" "[I") ∈ lw_all := lw_g (lw_at lw_m12 47 rfl) rfl
theorem q2787 : (Jvm.Cond.soleField "RingDominoModel$Told" "left") ∈ lw_all := lw_g (lw_at lw_m12 48 rfl) rfl
theorem q2788 : (Jvm.Cond.laysFinal "RingDominoModel$Told" "RingDominoModel$Told" "right" "[I") ∈ lw_all := lw_g (lw_at lw_m12 49 rfl) rfl
theorem q2789 : (Jvm.Cond.soleField "RingDominoModel$Told" "right") ∈ lw_all := lw_g (lw_at lw_m12 50 rfl) rfl
theorem q2790 : (Jvm.Cond.superclass "RingDominoModel$Told" "java/lang/Object") ∈ lw_all := lw_g (lw_at lw_m12 51 rfl) rfl
theorem q2919 : (Jvm.Cond.instanceMethod ({ cls := "RingDominoModel$Told", name := "begin", desc := "()V" } : Jvm.MethodName)) ∈ lw_all := lw_g (lw_at lw_m12 180 rfl) rfl
theorem q2920 : (Jvm.Cond.selects "RingDominoModel$Told" ({ cls := "RingDominoModel$Told", name := "begin", desc := "()V" } : Jvm.MethodName) ({ cls := "RingDominoModel$Told", name := "begin", desc := "()V" } : Jvm.MethodName)) ∈ lw_all := lw_g (lw_at lw_m12 181 rfl) rfl
theorem q2921 : (Jvm.Cond.code ({ cls := "RingDominoModel$Told", name := "begin", desc := "()V" } : Jvm.MethodName) prog_47_method_2_code (1 : Nat) (Option.none : Option Jvm.ClassFile.FieldType)) ∈ lw_all := lw_g (lw_at lw_m12 182 rfl) rfl
theorem q3058 : (Jvm.Cond.instanceMethod ({ cls := "RingDominoModel$Told", name := "become", desc := "(LRingDominoModel$Told;)V" } : Jvm.MethodName)) ∈ lw_all := lw_g (lw_at lw_m13 79 rfl) rfl
theorem q3059 : (Jvm.Cond.selects "RingDominoModel$Told" ({ cls := "RingDominoModel$Told", name := "become", desc := "(LRingDominoModel$Told;)V" } : Jvm.MethodName) ({ cls := "RingDominoModel$Told", name := "become", desc := "(LRingDominoModel$Told;)V" } : Jvm.MethodName)) ∈ lw_all := lw_g (lw_at lw_m13 80 rfl) rfl
theorem q3060 : (Jvm.Cond.code ({ cls := "RingDominoModel$Told", name := "become", desc := "(LRingDominoModel$Told;)V" } : Jvm.MethodName) prog_47_method_4_code (2 : Nat) (Option.none : Option Jvm.ClassFile.FieldType)) ∈ lw_all := lw_g (lw_at lw_m13 81 rfl) rfl
theorem q3061 : (Jvm.Cond.methodLink "RingDominoModel$Told" (64 : Nat) ({ cls := "RingDominoModel$Told", name := "copy", desc := "([I[I)V" } : Jvm.MethodName)) ∈ lw_all := lw_g (lw_at lw_m13 82 rfl) rfl
theorem q3062 : (Jvm.Cond.static ({ cls := "RingDominoModel$Told", name := "copy", desc := "([I[I)V" } : Jvm.MethodName)) ∈ lw_all := lw_g (lw_at lw_m13 83 rfl) rfl
theorem q3063 : (Jvm.Cond.code ({ cls := "RingDominoModel$Told", name := "copy", desc := "([I[I)V" } : Jvm.MethodName) prog_47_method_3_code (2 : Nat) (Option.none : Option Jvm.ClassFile.FieldType)) ∈ lw_all := lw_g (lw_at lw_m13 84 rfl) rfl
theorem q3064 : (Jvm.Cond.methodLink "RingDominoModel$Told" (58 : Nat) ({ cls := "java/lang/System", name := "arraycopy", desc := "(Ljava/lang/Object;ILjava/lang/Object;II)V" } : Jvm.MethodName)) ∈ lw_all := lw_g (lw_at lw_m13 85 rfl) rfl
theorem q3407 : (Jvm.Cond.castable "RingDominoModel$Told" "java/lang/Object") ∈ lw_tbl := lw_at lw_m14 188 rfl
theorem in_X5 : ∀ w ∈ wsX50, w ∈ lw_all := lw_in wsX50 [2760, 2762, 2764, 2766, 2768, 2770, 2772, 2774, 2776, 2778, 2780, 2782, 2784, 2786, 2788] (by decide +kernel) (by decide +kernel)

/-! RingDominoModel$State -/
def RX6 : String := "RingDominoModel$State"
def TX6 : u_T := fun k => match k with
  | 0 => ("RingDominoModel$State", "at", "[I", true)
  | 1 => ("RingDominoModel$State", "cell", "[I", true)
  | 2 => ("RingDominoModel$State", "turn", "[I", true)
  | 3 => ("RingDominoModel$State", "placed", "I", false)
  | _ => ("RingDominoModel$State", "rounds", "I", false)
def tyX6 : Nat → FieldType := fun k => match k with
  | 0 => .array .int
  | 1 => .array .int
  | 2 => .array .int
  | 3 => .int
  | _ => .int
abbrev wsX60 : List Cond := u_ws RX6 TX6 5
theorem nmX6 : ∀ a, a < 5 → ∀ b, b < 5 → a ≠ b → (TX6 a).2.1 ≠ (TX6 b).2.1 := by decide +kernel
theorem tyX6_ok : ∀ k, k < 5 → parseFieldDescriptor (TX6 k).2.2.1 = some (tyX6 k) := by decide +kernel
abbrev cX6_init : ByteArray := prog_46_method_1_code
def yX6_init : MethodName := ⟨RX6, "<init>", "()V"⟩
def dkwX6_init_1 : List UInt8 := [188, 10, 181, 0, 18, 177]
abbrev dktX6_init_1 : List UInt8 := dkwX6_init_1 ++ []
def dkwX6_init_0 : List UInt8 := [42, 183, 0, 3, 42, 16, 49, 188, 10, 181, 0, 9, 42, 16, 16, 188, 10, 181, 0, 15, 42, 16, 16]
abbrev dktX6_init_0 : List UInt8 := dkwX6_init_0 ++ dktX6_init_1
theorem dksX6_init_0 : cX6_init.data.toList.drop 0 = dktX6_init_0 := by decide +kernel
theorem dksX6_init_1 : cX6_init.data.toList.drop 23 = dktX6_init_1 := dk_seg dksX6_init_0 23 rfl rfl
theorem dX6_init_0 : decode cX6_init 0 = .ok (.aload_n 0, 1) := dk_42 (dk_at dksX6_init_0 0 rfl rfl)
theorem dX6_init_1 : decode cX6_init 1 = .ok (.invokespecial 3, 3) := dk_183 0 3 (dk_at dksX6_init_0 1 rfl rfl)
theorem dX6_init_4 : decode cX6_init 4 = .ok (.aload_n 0, 1) := dk_42 (dk_at dksX6_init_0 4 rfl rfl)
theorem dX6_init_5 : decode cX6_init 5 = .ok (.bipush 49, 2) := dk_16 49 (dk_at dksX6_init_0 5 rfl rfl)
theorem dX6_init_7 : decode cX6_init 7 = .ok (.newarray .int, 2) := dk_188_10 (dk_at dksX6_init_0 7 rfl rfl)
theorem dX6_init_9 : decode cX6_init 9 = .ok (.putfield 9, 3) := dk_181 0 9 (dk_at dksX6_init_0 9 rfl rfl)
theorem dX6_init_12 : decode cX6_init 12 = .ok (.aload_n 0, 1) := dk_42 (dk_at dksX6_init_0 12 rfl rfl)
theorem dX6_init_13 : decode cX6_init 13 = .ok (.bipush 16, 2) := dk_16 16 (dk_at dksX6_init_0 13 rfl rfl)
theorem dX6_init_15 : decode cX6_init 15 = .ok (.newarray .int, 2) := dk_188_10 (dk_at dksX6_init_0 15 rfl rfl)
theorem dX6_init_17 : decode cX6_init 17 = .ok (.putfield 15, 3) := dk_181 0 15 (dk_at dksX6_init_0 17 rfl rfl)
theorem dX6_init_20 : decode cX6_init 20 = .ok (.aload_n 0, 1) := dk_42 (dk_at dksX6_init_0 20 rfl rfl)
theorem dX6_init_21 : decode cX6_init 21 = .ok (.bipush 16, 2) := dk_16 16 (dk_at dksX6_init_0 21 rfl rfl)
theorem dX6_init_23 : decode cX6_init 23 = .ok (.newarray .int, 2) := dk_188_10 (dk_at dksX6_init_1 0 rfl rfl)
theorem dX6_init_25 : decode cX6_init 25 = .ok (.putfield 18, 3) := dk_181 0 18 (dk_at dksX6_init_1 2 rfl rfl)
theorem dX6_init_28 : decode cX6_init 28 = .ok (.return_, 1) := dk_177 (dk_at dksX6_init_1 5 rfl rfl)
abbrev cX6_begin : ByteArray := prog_46_method_2_code
def yX6_begin : MethodName := ⟨RX6, "begin", "()V"⟩
def dkwX6_begin_2 : List UInt8 := [3, 181, 0, 25, 177]
abbrev dktX6_begin_2 : List UInt8 := dkwX6_begin_2 ++ []
def dkwX6_begin_1 : List UInt8 := [16, 16, 162, 0, 16, 42, 180, 0, 15, 27, 2, 79, 132, 1, 1, 167, 255, 240, 42, 3, 181, 0, 21, 42]
abbrev dktX6_begin_1 : List UInt8 := dkwX6_begin_1 ++ dktX6_begin_2
def dkwX6_begin_0 : List UInt8 := [3, 60, 27, 16, 49, 162, 0, 16, 42, 180, 0, 9, 27, 2, 79, 132, 1, 1, 167, 255, 240, 3, 60, 27]
abbrev dktX6_begin_0 : List UInt8 := dkwX6_begin_0 ++ dktX6_begin_1
theorem dksX6_begin_0 : cX6_begin.data.toList.drop 0 = dktX6_begin_0 := by decide +kernel
theorem dksX6_begin_1 : cX6_begin.data.toList.drop 24 = dktX6_begin_1 := dk_seg dksX6_begin_0 24 rfl rfl
theorem dksX6_begin_2 : cX6_begin.data.toList.drop 48 = dktX6_begin_2 := dk_seg dksX6_begin_1 24 rfl rfl
theorem dX6_begin_0 : decode cX6_begin 0 = .ok (.iconst 0, 1) := dk_3 (dk_at dksX6_begin_0 0 rfl rfl)
theorem dX6_begin_1 : decode cX6_begin 1 = .ok (.istore_n 1, 1) := dk_60 (dk_at dksX6_begin_0 1 rfl rfl)
theorem dX6_begin_2 : decode cX6_begin 2 = .ok (.iload_n 1, 1) := dk_27 (dk_at dksX6_begin_0 2 rfl rfl)
theorem dX6_begin_3 : decode cX6_begin 3 = .ok (.bipush 49, 2) := dk_16 49 (dk_at dksX6_begin_0 3 rfl rfl)
theorem dX6_begin_5 : decode cX6_begin 5 = .ok (.if_icmp .ge 16, 3) := dk_162 0 16 (dk_at dksX6_begin_0 5 rfl rfl)
theorem dX6_begin_8 : decode cX6_begin 8 = .ok (.aload_n 0, 1) := dk_42 (dk_at dksX6_begin_0 8 rfl rfl)
theorem dX6_begin_9 : decode cX6_begin 9 = .ok (.getfield 9, 3) := dk_180 0 9 (dk_at dksX6_begin_0 9 rfl rfl)
theorem dX6_begin_12 : decode cX6_begin 12 = .ok (.iload_n 1, 1) := dk_27 (dk_at dksX6_begin_0 12 rfl rfl)
theorem dX6_begin_13 : decode cX6_begin 13 = .ok (.iconst (-1), 1) := dk_2 (dk_at dksX6_begin_0 13 rfl rfl)
theorem dX6_begin_14 : decode cX6_begin 14 = .ok (.iastore, 1) := dk_79 (dk_at dksX6_begin_0 14 rfl rfl)
theorem dX6_begin_15 : decode cX6_begin 15 = .ok (.iinc 1 1, 3) := dk_132 1 1 (dk_at dksX6_begin_0 15 rfl rfl)
theorem dX6_begin_18 : decode cX6_begin 18 = .ok (.goto (-16), 3) := dk_167 255 240 (dk_at dksX6_begin_0 18 rfl rfl)
theorem dX6_begin_21 : decode cX6_begin 21 = .ok (.iconst 0, 1) := dk_3 (dk_at dksX6_begin_0 21 rfl rfl)
theorem dX6_begin_22 : decode cX6_begin 22 = .ok (.istore_n 1, 1) := dk_60 (dk_at dksX6_begin_0 22 rfl rfl)
theorem dX6_begin_23 : decode cX6_begin 23 = .ok (.iload_n 1, 1) := dk_27 (dk_at dksX6_begin_0 23 rfl rfl)
theorem dX6_begin_24 : decode cX6_begin 24 = .ok (.bipush 16, 2) := dk_16 16 (dk_at dksX6_begin_1 0 rfl rfl)
theorem dX6_begin_26 : decode cX6_begin 26 = .ok (.if_icmp .ge 16, 3) := dk_162 0 16 (dk_at dksX6_begin_1 2 rfl rfl)
theorem dX6_begin_29 : decode cX6_begin 29 = .ok (.aload_n 0, 1) := dk_42 (dk_at dksX6_begin_1 5 rfl rfl)
theorem dX6_begin_30 : decode cX6_begin 30 = .ok (.getfield 15, 3) := dk_180 0 15 (dk_at dksX6_begin_1 6 rfl rfl)
theorem dX6_begin_33 : decode cX6_begin 33 = .ok (.iload_n 1, 1) := dk_27 (dk_at dksX6_begin_1 9 rfl rfl)
theorem dX6_begin_34 : decode cX6_begin 34 = .ok (.iconst (-1), 1) := dk_2 (dk_at dksX6_begin_1 10 rfl rfl)
theorem dX6_begin_35 : decode cX6_begin 35 = .ok (.iastore, 1) := dk_79 (dk_at dksX6_begin_1 11 rfl rfl)
theorem dX6_begin_36 : decode cX6_begin 36 = .ok (.iinc 1 1, 3) := dk_132 1 1 (dk_at dksX6_begin_1 12 rfl rfl)
theorem dX6_begin_39 : decode cX6_begin 39 = .ok (.goto (-16), 3) := dk_167 255 240 (dk_at dksX6_begin_1 15 rfl rfl)
theorem dX6_begin_42 : decode cX6_begin 42 = .ok (.aload_n 0, 1) := dk_42 (dk_at dksX6_begin_1 18 rfl rfl)
theorem dX6_begin_43 : decode cX6_begin 43 = .ok (.iconst 0, 1) := dk_3 (dk_at dksX6_begin_1 19 rfl rfl)
theorem dX6_begin_44 : decode cX6_begin 44 = .ok (.putfield 21, 3) := dk_181 0 21 (dk_at dksX6_begin_1 20 rfl rfl)
theorem dX6_begin_47 : decode cX6_begin 47 = .ok (.aload_n 0, 1) := dk_42 (dk_at dksX6_begin_1 23 rfl rfl)
theorem dX6_begin_48 : decode cX6_begin 48 = .ok (.iconst 0, 1) := dk_3 (dk_at dksX6_begin_2 0 rfl rfl)
theorem dX6_begin_49 : decode cX6_begin 49 = .ok (.putfield 25, 3) := dk_181 0 25 (dk_at dksX6_begin_2 1 rfl rfl)
theorem dX6_begin_52 : decode cX6_begin 52 = .ok (.return_, 1) := dk_177 (dk_at dksX6_begin_2 4 rfl rfl)
abbrev cX6_put : ByteArray := prog_46_method_4_code
def yX6_put : MethodName := ⟨RX6, "put", "(III)V"⟩
def dkwX6_put_1 : List UInt8 := [180, 0, 21, 4, 96, 181, 0, 21, 177]
abbrev dktX6_put_1 : List UInt8 := dkwX6_put_1 ++ []
def dkwX6_put_0 : List UInt8 := [42, 180, 0, 9, 28, 27, 79, 42, 180, 0, 15, 27, 28, 79, 42, 180, 0, 18, 27, 29, 79, 42, 89]
abbrev dktX6_put_0 : List UInt8 := dkwX6_put_0 ++ dktX6_put_1
theorem dksX6_put_0 : cX6_put.data.toList.drop 0 = dktX6_put_0 := by decide +kernel
theorem dksX6_put_1 : cX6_put.data.toList.drop 23 = dktX6_put_1 := dk_seg dksX6_put_0 23 rfl rfl
theorem dX6_put_0 : decode cX6_put 0 = .ok (.aload_n 0, 1) := dk_42 (dk_at dksX6_put_0 0 rfl rfl)
theorem dX6_put_1 : decode cX6_put 1 = .ok (.getfield 9, 3) := dk_180 0 9 (dk_at dksX6_put_0 1 rfl rfl)
theorem dX6_put_4 : decode cX6_put 4 = .ok (.iload_n 2, 1) := dk_28 (dk_at dksX6_put_0 4 rfl rfl)
theorem dX6_put_5 : decode cX6_put 5 = .ok (.iload_n 1, 1) := dk_27 (dk_at dksX6_put_0 5 rfl rfl)
theorem dX6_put_6 : decode cX6_put 6 = .ok (.iastore, 1) := dk_79 (dk_at dksX6_put_0 6 rfl rfl)
theorem dX6_put_7 : decode cX6_put 7 = .ok (.aload_n 0, 1) := dk_42 (dk_at dksX6_put_0 7 rfl rfl)
theorem dX6_put_8 : decode cX6_put 8 = .ok (.getfield 15, 3) := dk_180 0 15 (dk_at dksX6_put_0 8 rfl rfl)
theorem dX6_put_11 : decode cX6_put 11 = .ok (.iload_n 1, 1) := dk_27 (dk_at dksX6_put_0 11 rfl rfl)
theorem dX6_put_12 : decode cX6_put 12 = .ok (.iload_n 2, 1) := dk_28 (dk_at dksX6_put_0 12 rfl rfl)
theorem dX6_put_13 : decode cX6_put 13 = .ok (.iastore, 1) := dk_79 (dk_at dksX6_put_0 13 rfl rfl)
theorem dX6_put_14 : decode cX6_put 14 = .ok (.aload_n 0, 1) := dk_42 (dk_at dksX6_put_0 14 rfl rfl)
theorem dX6_put_15 : decode cX6_put 15 = .ok (.getfield 18, 3) := dk_180 0 18 (dk_at dksX6_put_0 15 rfl rfl)
theorem dX6_put_18 : decode cX6_put 18 = .ok (.iload_n 1, 1) := dk_27 (dk_at dksX6_put_0 18 rfl rfl)
theorem dX6_put_19 : decode cX6_put 19 = .ok (.iload_n 3, 1) := dk_29 (dk_at dksX6_put_0 19 rfl rfl)
theorem dX6_put_20 : decode cX6_put 20 = .ok (.iastore, 1) := dk_79 (dk_at dksX6_put_0 20 rfl rfl)
theorem dX6_put_21 : decode cX6_put 21 = .ok (.aload_n 0, 1) := dk_42 (dk_at dksX6_put_0 21 rfl rfl)
theorem dX6_put_22 : decode cX6_put 22 = .ok (.dup, 1) := dk_89 (dk_at dksX6_put_0 22 rfl rfl)
theorem dX6_put_23 : decode cX6_put 23 = .ok (.getfield 21, 3) := dk_180 0 21 (dk_at dksX6_put_1 0 rfl rfl)
theorem dX6_put_26 : decode cX6_put 26 = .ok (.iconst 1, 1) := dk_4 (dk_at dksX6_put_1 3 rfl rfl)
theorem dX6_put_27 : decode cX6_put 27 = .ok (.iadd, 1) := dk_96 (dk_at dksX6_put_1 4 rfl rfl)
theorem dX6_put_28 : decode cX6_put 28 = .ok (.putfield 21, 3) := dk_181 0 21 (dk_at dksX6_put_1 5 rfl rfl)
theorem dX6_put_31 : decode cX6_put 31 = .ok (.return_, 1) := dk_177 (dk_at dksX6_put_1 8 rfl rfl)
abbrev cX6_take : ByteArray := prog_46_method_5_code
def yX6_take : MethodName := ⟨RX6, "take", "(I)V"⟩
def dkwX6_take_1 : List UInt8 := [4, 100, 181, 0, 21, 177]
abbrev dktX6_take_1 : List UInt8 := dkwX6_take_1 ++ []
def dkwX6_take_0 : List UInt8 := [42, 180, 0, 9, 42, 180, 0, 15, 27, 46, 2, 79, 42, 180, 0, 15, 27, 2, 79, 42, 89, 180, 0, 21]
abbrev dktX6_take_0 : List UInt8 := dkwX6_take_0 ++ dktX6_take_1
theorem dksX6_take_0 : cX6_take.data.toList.drop 0 = dktX6_take_0 := by decide +kernel
theorem dksX6_take_1 : cX6_take.data.toList.drop 24 = dktX6_take_1 := dk_seg dksX6_take_0 24 rfl rfl
theorem dX6_take_0 : decode cX6_take 0 = .ok (.aload_n 0, 1) := dk_42 (dk_at dksX6_take_0 0 rfl rfl)
theorem dX6_take_1 : decode cX6_take 1 = .ok (.getfield 9, 3) := dk_180 0 9 (dk_at dksX6_take_0 1 rfl rfl)
theorem dX6_take_4 : decode cX6_take 4 = .ok (.aload_n 0, 1) := dk_42 (dk_at dksX6_take_0 4 rfl rfl)
theorem dX6_take_5 : decode cX6_take 5 = .ok (.getfield 15, 3) := dk_180 0 15 (dk_at dksX6_take_0 5 rfl rfl)
theorem dX6_take_8 : decode cX6_take 8 = .ok (.iload_n 1, 1) := dk_27 (dk_at dksX6_take_0 8 rfl rfl)
theorem dX6_take_9 : decode cX6_take 9 = .ok (.iaload, 1) := dk_46 (dk_at dksX6_take_0 9 rfl rfl)
theorem dX6_take_10 : decode cX6_take 10 = .ok (.iconst (-1), 1) := dk_2 (dk_at dksX6_take_0 10 rfl rfl)
theorem dX6_take_11 : decode cX6_take 11 = .ok (.iastore, 1) := dk_79 (dk_at dksX6_take_0 11 rfl rfl)
theorem dX6_take_12 : decode cX6_take 12 = .ok (.aload_n 0, 1) := dk_42 (dk_at dksX6_take_0 12 rfl rfl)
theorem dX6_take_13 : decode cX6_take 13 = .ok (.getfield 15, 3) := dk_180 0 15 (dk_at dksX6_take_0 13 rfl rfl)
theorem dX6_take_16 : decode cX6_take 16 = .ok (.iload_n 1, 1) := dk_27 (dk_at dksX6_take_0 16 rfl rfl)
theorem dX6_take_17 : decode cX6_take 17 = .ok (.iconst (-1), 1) := dk_2 (dk_at dksX6_take_0 17 rfl rfl)
theorem dX6_take_18 : decode cX6_take 18 = .ok (.iastore, 1) := dk_79 (dk_at dksX6_take_0 18 rfl rfl)
theorem dX6_take_19 : decode cX6_take 19 = .ok (.aload_n 0, 1) := dk_42 (dk_at dksX6_take_0 19 rfl rfl)
theorem dX6_take_20 : decode cX6_take 20 = .ok (.dup, 1) := dk_89 (dk_at dksX6_take_0 20 rfl rfl)
theorem dX6_take_21 : decode cX6_take 21 = .ok (.getfield 21, 3) := dk_180 0 21 (dk_at dksX6_take_0 21 rfl rfl)
theorem dX6_take_24 : decode cX6_take 24 = .ok (.iconst 1, 1) := dk_4 (dk_at dksX6_take_1 0 rfl rfl)
theorem dX6_take_25 : decode cX6_take 25 = .ok (.isub, 1) := dk_100 (dk_at dksX6_take_1 1 rfl rfl)
theorem dX6_take_26 : decode cX6_take 26 = .ok (.putfield 21, 3) := dk_181 0 21 (dk_at dksX6_take_1 2 rfl rfl)
theorem dX6_take_29 : decode cX6_take 29 = .ok (.return_, 1) := dk_177 (dk_at dksX6_take_1 5 rfl rfl)
abbrev cX6_become : ByteArray := prog_46_method_3_code
def yX6_become : MethodName := ⟨RX6, "become", "(LRingDominoModel$State;)V"⟩
def dkwX6_become_2 : List UInt8 := [181, 0, 25, 177]
abbrev dktX6_become_2 : List UInt8 := dkwX6_become_2 ++ []
def dkwX6_become_1 : List UInt8 := [180, 0, 18, 42, 180, 0, 18, 184, 0, 28, 42, 43, 180, 0, 21, 181, 0, 21, 42, 43, 180, 0, 25]
abbrev dktX6_become_1 : List UInt8 := dkwX6_become_1 ++ dktX6_become_2
def dkwX6_become_0 : List UInt8 := [43, 180, 0, 9, 42, 180, 0, 9, 184, 0, 28, 43, 180, 0, 15, 42, 180, 0, 15, 184, 0, 28, 43]
abbrev dktX6_become_0 : List UInt8 := dkwX6_become_0 ++ dktX6_become_1
theorem dksX6_become_0 : cX6_become.data.toList.drop 0 = dktX6_become_0 := by decide +kernel
theorem dksX6_become_1 : cX6_become.data.toList.drop 23 = dktX6_become_1 := dk_seg dksX6_become_0 23 rfl rfl
theorem dksX6_become_2 : cX6_become.data.toList.drop 46 = dktX6_become_2 := dk_seg dksX6_become_1 23 rfl rfl
theorem dX6_become_0 : decode cX6_become 0 = .ok (.aload_n 1, 1) := dk_43 (dk_at dksX6_become_0 0 rfl rfl)
theorem dX6_become_1 : decode cX6_become 1 = .ok (.getfield 9, 3) := dk_180 0 9 (dk_at dksX6_become_0 1 rfl rfl)
theorem dX6_become_4 : decode cX6_become 4 = .ok (.aload_n 0, 1) := dk_42 (dk_at dksX6_become_0 4 rfl rfl)
theorem dX6_become_5 : decode cX6_become 5 = .ok (.getfield 9, 3) := dk_180 0 9 (dk_at dksX6_become_0 5 rfl rfl)
theorem dX6_become_8 : decode cX6_become 8 = .ok (.invokestatic 28, 3) := dk_184 0 28 (dk_at dksX6_become_0 8 rfl rfl)
theorem dX6_become_11 : decode cX6_become 11 = .ok (.aload_n 1, 1) := dk_43 (dk_at dksX6_become_0 11 rfl rfl)
theorem dX6_become_12 : decode cX6_become 12 = .ok (.getfield 15, 3) := dk_180 0 15 (dk_at dksX6_become_0 12 rfl rfl)
theorem dX6_become_15 : decode cX6_become 15 = .ok (.aload_n 0, 1) := dk_42 (dk_at dksX6_become_0 15 rfl rfl)
theorem dX6_become_16 : decode cX6_become 16 = .ok (.getfield 15, 3) := dk_180 0 15 (dk_at dksX6_become_0 16 rfl rfl)
theorem dX6_become_19 : decode cX6_become 19 = .ok (.invokestatic 28, 3) := dk_184 0 28 (dk_at dksX6_become_0 19 rfl rfl)
theorem dX6_become_22 : decode cX6_become 22 = .ok (.aload_n 1, 1) := dk_43 (dk_at dksX6_become_0 22 rfl rfl)
theorem dX6_become_23 : decode cX6_become 23 = .ok (.getfield 18, 3) := dk_180 0 18 (dk_at dksX6_become_1 0 rfl rfl)
theorem dX6_become_26 : decode cX6_become 26 = .ok (.aload_n 0, 1) := dk_42 (dk_at dksX6_become_1 3 rfl rfl)
theorem dX6_become_27 : decode cX6_become 27 = .ok (.getfield 18, 3) := dk_180 0 18 (dk_at dksX6_become_1 4 rfl rfl)
theorem dX6_become_30 : decode cX6_become 30 = .ok (.invokestatic 28, 3) := dk_184 0 28 (dk_at dksX6_become_1 7 rfl rfl)
theorem dX6_become_33 : decode cX6_become 33 = .ok (.aload_n 0, 1) := dk_42 (dk_at dksX6_become_1 10 rfl rfl)
theorem dX6_become_34 : decode cX6_become 34 = .ok (.aload_n 1, 1) := dk_43 (dk_at dksX6_become_1 11 rfl rfl)
theorem dX6_become_35 : decode cX6_become 35 = .ok (.getfield 21, 3) := dk_180 0 21 (dk_at dksX6_become_1 12 rfl rfl)
theorem dX6_become_38 : decode cX6_become 38 = .ok (.putfield 21, 3) := dk_181 0 21 (dk_at dksX6_become_1 15 rfl rfl)
theorem dX6_become_41 : decode cX6_become 41 = .ok (.aload_n 0, 1) := dk_42 (dk_at dksX6_become_1 18 rfl rfl)
theorem dX6_become_42 : decode cX6_become 42 = .ok (.aload_n 1, 1) := dk_43 (dk_at dksX6_become_1 19 rfl rfl)
theorem dX6_become_43 : decode cX6_become 43 = .ok (.getfield 25, 3) := dk_180 0 25 (dk_at dksX6_become_1 20 rfl rfl)
theorem dX6_become_46 : decode cX6_become 46 = .ok (.putfield 25, 3) := dk_181 0 25 (dk_at dksX6_become_2 0 rfl rfl)
theorem dX6_become_49 : decode cX6_become 49 = .ok (.return_, 1) := dk_177 (dk_at dksX6_become_2 3 rfl rfl)
theorem q108 : (Jvm.Cond.initialized "RingDominoModel$State") ∈ lw_all := lw_g (lw_at lw_m1 9 rfl) rfl
theorem q824 : (Jvm.Cond.selects "RingDominoModel$State" ({ cls := "java/lang/Object", name := "getClass", desc := "()Ljava/lang/Class;" } : Jvm.MethodName) ({ cls := "java/lang/Object", name := "getClass", desc := "()Ljava/lang/Class;" } : Jvm.MethodName)) ∈ lw_all := lw_g (lw_at lw_m4 5 rfl) rfl
theorem q1087 : (Jvm.Cond.selects "RingDominoModel$State" ({ cls := "java/lang/Object", name := "hashCode", desc := "()I" } : Jvm.MethodName) ({ cls := "java/lang/Object", name := "hashCode", desc := "()I" } : Jvm.MethodName)) ∈ lw_all := lw_g (lw_at lw_m5 28 rfl) rfl
theorem q1204 : (Jvm.Cond.selects "RingDominoModel$State" ({ cls := "java/lang/Object", name := "equals", desc := "(Ljava/lang/Object;)Z" } : Jvm.MethodName) ({ cls := "java/lang/Object", name := "equals", desc := "(Ljava/lang/Object;)Z" } : Jvm.MethodName)) ∈ lw_all := lw_g (lw_at lw_m5 145 rfl) rfl
theorem q2792 : (Jvm.Cond.instantiable "RingDominoModel$State" (5 : Nat)) ∈ lw_all := lw_g (lw_at lw_m12 53 rfl) rfl
theorem q2794 : (Jvm.Cond.instanceMethod ({ cls := "RingDominoModel$State", name := "<init>", desc := "()V" } : Jvm.MethodName)) ∈ lw_all := lw_g (lw_at lw_m12 55 rfl) rfl
theorem q2795 : (Jvm.Cond.code ({ cls := "RingDominoModel$State", name := "<init>", desc := "()V" } : Jvm.MethodName) prog_46_method_1_code (1 : Nat) (Option.none : Option Jvm.ClassFile.FieldType)) ∈ lw_all := lw_g (lw_at lw_m12 56 rfl) rfl
theorem q2796 : (Jvm.Cond.methodLink "RingDominoModel$State" (3 : Nat) ({ cls := "java/lang/Object", name := "<init>", desc := "()V" } : Jvm.MethodName)) ∈ lw_all := lw_g (lw_at lw_m12 57 rfl) rfl
theorem q2797 : (Jvm.Cond.fieldLink "RingDominoModel$State" (9 : Nat) "RingDominoModel$State" "at" "[I") ∈ lw_all := lw_g (lw_at lw_m12 58 rfl) rfl
theorem q2799 : (Jvm.Cond.fieldLink "RingDominoModel$State" (15 : Nat) "RingDominoModel$State" "cell" "[I") ∈ lw_all := lw_g (lw_at lw_m12 60 rfl) rfl
theorem q2801 : (Jvm.Cond.fieldLink "RingDominoModel$State" (18 : Nat) "RingDominoModel$State" "turn" "[I") ∈ lw_all := lw_g (lw_at lw_m12 62 rfl) rfl
theorem q2803 : (Jvm.Cond.fieldLink "RingDominoModel$State" (21 : Nat) "RingDominoModel$State" "placed" "I") ∈ lw_all := lw_g (lw_at lw_m12 64 rfl) rfl
theorem q2805 : (Jvm.Cond.fieldLink "RingDominoModel$State" (25 : Nat) "RingDominoModel$State" "rounds" "I") ∈ lw_all := lw_g (lw_at lw_m12 66 rfl) rfl
theorem q2807 : (Jvm.Cond.laysFinal "RingDominoModel$State" "RingDominoModel$State" "at" "[I") ∈ lw_all := lw_g (lw_at lw_m12 68 rfl) rfl
theorem q2808 : (Jvm.Cond.soleField "RingDominoModel$State" "at") ∈ lw_all := lw_g (lw_at lw_m12 69 rfl) rfl
theorem q2809 : (Jvm.Cond.laysFinal "RingDominoModel$State" "RingDominoModel$State" "cell" "[I") ∈ lw_all := lw_g (lw_at lw_m12 70 rfl) rfl
theorem q2810 : (Jvm.Cond.soleField "RingDominoModel$State" "cell") ∈ lw_all := lw_g (lw_at lw_m12 71 rfl) rfl
theorem q2811 : (Jvm.Cond.laysFinal "RingDominoModel$State" "RingDominoModel$State" "turn" "[I") ∈ lw_all := lw_g (lw_at lw_m12 72 rfl) rfl
theorem q2812 : (Jvm.Cond.soleField "RingDominoModel$State" "turn") ∈ lw_all := lw_g (lw_at lw_m12 73 rfl) rfl
theorem q2813 : (Jvm.Cond.lays "RingDominoModel$State" "RingDominoModel$State" "placed" "I") ∈ lw_all := lw_g (lw_at lw_m12 74 rfl) rfl
theorem q2814 : (Jvm.Cond.soleField "RingDominoModel$State" "placed") ∈ lw_all := lw_g (lw_at lw_m12 75 rfl) rfl
theorem q2815 : (Jvm.Cond.lays "RingDominoModel$State" "RingDominoModel$State" "rounds" "I") ∈ lw_all := lw_g (lw_at lw_m12 76 rfl) rfl
theorem q2816 : (Jvm.Cond.soleField "RingDominoModel$State" "rounds") ∈ lw_all := lw_g (lw_at lw_m12 77 rfl) rfl
theorem q2817 : (Jvm.Cond.superclass "RingDominoModel$State" "java/lang/Object") ∈ lw_all := lw_g (lw_at lw_m12 78 rfl) rfl
theorem q2819 : (Jvm.Cond.instanceMethod ({ cls := "RingDominoModel$State", name := "begin", desc := "()V" } : Jvm.MethodName)) ∈ lw_all := lw_g (lw_at lw_m12 80 rfl) rfl
theorem q2820 : (Jvm.Cond.selects "RingDominoModel$State" ({ cls := "RingDominoModel$State", name := "begin", desc := "()V" } : Jvm.MethodName) ({ cls := "RingDominoModel$State", name := "begin", desc := "()V" } : Jvm.MethodName)) ∈ lw_all := lw_g (lw_at lw_m12 81 rfl) rfl
theorem q2821 : (Jvm.Cond.code ({ cls := "RingDominoModel$State", name := "begin", desc := "()V" } : Jvm.MethodName) prog_46_method_2_code (2 : Nat) (Option.none : Option Jvm.ClassFile.FieldType)) ∈ lw_all := lw_g (lw_at lw_m12 82 rfl) rfl
theorem q3269 : (Jvm.Cond.instanceMethod ({ cls := "RingDominoModel$State", name := "put", desc := "(III)V" } : Jvm.MethodName)) ∈ lw_all := lw_g (lw_at lw_m14 50 rfl) rfl
theorem q3270 : (Jvm.Cond.selects "RingDominoModel$State" ({ cls := "RingDominoModel$State", name := "put", desc := "(III)V" } : Jvm.MethodName) ({ cls := "RingDominoModel$State", name := "put", desc := "(III)V" } : Jvm.MethodName)) ∈ lw_all := lw_g (lw_at lw_m14 51 rfl) rfl
theorem q3271 : (Jvm.Cond.code ({ cls := "RingDominoModel$State", name := "put", desc := "(III)V" } : Jvm.MethodName) prog_46_method_4_code (4 : Nat) (Option.none : Option Jvm.ClassFile.FieldType)) ∈ lw_all := lw_g (lw_at lw_m14 52 rfl) rfl
theorem q3277 : (Jvm.Cond.instanceMethod ({ cls := "RingDominoModel$State", name := "take", desc := "(I)V" } : Jvm.MethodName)) ∈ lw_all := lw_g (lw_at lw_m14 58 rfl) rfl
theorem q3278 : (Jvm.Cond.selects "RingDominoModel$State" ({ cls := "RingDominoModel$State", name := "take", desc := "(I)V" } : Jvm.MethodName) ({ cls := "RingDominoModel$State", name := "take", desc := "(I)V" } : Jvm.MethodName)) ∈ lw_all := lw_g (lw_at lw_m14 59 rfl) rfl
theorem q3279 : (Jvm.Cond.code ({ cls := "RingDominoModel$State", name := "take", desc := "(I)V" } : Jvm.MethodName) prog_46_method_5_code (2 : Nat) (Option.none : Option Jvm.ClassFile.FieldType)) ∈ lw_all := lw_g (lw_at lw_m14 60 rfl) rfl
theorem q3319 : (Jvm.Cond.instanceMethod ({ cls := "RingDominoModel$State", name := "become", desc := "(LRingDominoModel$State;)V" } : Jvm.MethodName)) ∈ lw_all := lw_g (lw_at lw_m14 100 rfl) rfl
theorem q3320 : (Jvm.Cond.selects "RingDominoModel$State" ({ cls := "RingDominoModel$State", name := "become", desc := "(LRingDominoModel$State;)V" } : Jvm.MethodName) ({ cls := "RingDominoModel$State", name := "become", desc := "(LRingDominoModel$State;)V" } : Jvm.MethodName)) ∈ lw_all := lw_g (lw_at lw_m14 101 rfl) rfl
theorem q3321 : (Jvm.Cond.code ({ cls := "RingDominoModel$State", name := "become", desc := "(LRingDominoModel$State;)V" } : Jvm.MethodName) prog_46_method_3_code (2 : Nat) (Option.none : Option Jvm.ClassFile.FieldType)) ∈ lw_all := lw_g (lw_at lw_m14 102 rfl) rfl
theorem q3322 : (Jvm.Cond.methodLinkNest "RingDominoModel$State" (28 : Nat) ({ cls := "RingDominoModel$Told", name := "copy", desc := "([I[I)V" } : Jvm.MethodName) "RingDominoModel") ∈ lw_tbl := lw_at lw_m14 103 rfl
theorem q3408 : (Jvm.Cond.castable "RingDominoModel$State" "java/lang/Object") ∈ lw_tbl := lw_at lw_m14 189 rfl
theorem in_X6 : ∀ w ∈ wsX60, w ∈ lw_all := lw_in wsX60 [2807, 2809, 2811, 2813, 2815] (by decide +kernel) (by decide +kernel)

/-! RingDomino$Reader -/
def RX7 : String := "RingDomino$Reader"
def TX7 : u_T := fun k => match k with
  | 0 => ("RingDomino$Reader", "tokens", "Ljava/util/List;", true)
  | 1 => ("RingDomino$Reader", "at", "I", false)
  | 2 => ("RingDomino$Reader", "depth", "I", false)
  | 3 => ("RingDomino$Reader", "isSecond", "Z", false)
  | 4 => ("RingDomino$Reader", "game", "LRingDomino$Game;", false)
  | _ => ("RingDomino$Reader", "tiles", "Ljava/util/HashMap;", true)
def tyX7 : Nat → FieldType := fun k => match k with
  | 0 => .object "java/util/List"
  | 1 => .int
  | 2 => .int
  | 3 => .boolean
  | 4 => .object "RingDomino$Game"
  | _ => .object "java/util/HashMap"
abbrev wsX70 : List Cond := u_ws RX7 TX7 6
theorem nmX7 : ∀ a, a < 6 → ∀ b, b < 6 → a ≠ b → (TX7 a).2.1 ≠ (TX7 b).2.1 := by decide +kernel
theorem tyX7_ok : ∀ k, k < 6 → parseFieldDescriptor (TX7 k).2.2.1 = some (tyX7 k) := by decide +kernel
abbrev cX7_init : ByteArray := prog_17_method_1_code
def yX7_init : MethodName := ⟨RX7, "<init>", "(Ljava/util/List;)V"⟩
def dkwX7_init_1 : List UInt8 := [181, 0, 21, 42, 43, 181, 0, 25, 177]
abbrev dktX7_init_1 : List UInt8 := dkwX7_init_1 ++ []
def dkwX7_init_0 : List UInt8 := [42, 183, 0, 3, 42, 187, 0, 9, 89, 183, 0, 11, 181, 0, 12, 42, 187, 0, 18, 89, 183, 0, 20]
abbrev dktX7_init_0 : List UInt8 := dkwX7_init_0 ++ dktX7_init_1
theorem dksX7_init_0 : cX7_init.data.toList.drop 0 = dktX7_init_0 := by decide +kernel
theorem dksX7_init_1 : cX7_init.data.toList.drop 23 = dktX7_init_1 := dk_seg dksX7_init_0 23 rfl rfl
theorem dX7_init_0 : decode cX7_init 0 = .ok (.aload_n 0, 1) := dk_42 (dk_at dksX7_init_0 0 rfl rfl)
theorem dX7_init_1 : decode cX7_init 1 = .ok (.invokespecial 3, 3) := dk_183 0 3 (dk_at dksX7_init_0 1 rfl rfl)
theorem dX7_init_4 : decode cX7_init 4 = .ok (.aload_n 0, 1) := dk_42 (dk_at dksX7_init_0 4 rfl rfl)
theorem dX7_init_5 : decode cX7_init 5 = .ok (.new 9, 3) := dk_187 0 9 (dk_at dksX7_init_0 5 rfl rfl)
theorem dX7_init_8 : decode cX7_init 8 = .ok (.dup, 1) := dk_89 (dk_at dksX7_init_0 8 rfl rfl)
theorem dX7_init_9 : decode cX7_init 9 = .ok (.invokespecial 11, 3) := dk_183 0 11 (dk_at dksX7_init_0 9 rfl rfl)
theorem dX7_init_12 : decode cX7_init 12 = .ok (.putfield 12, 3) := dk_181 0 12 (dk_at dksX7_init_0 12 rfl rfl)
theorem dX7_init_15 : decode cX7_init 15 = .ok (.aload_n 0, 1) := dk_42 (dk_at dksX7_init_0 15 rfl rfl)
theorem dX7_init_16 : decode cX7_init 16 = .ok (.new 18, 3) := dk_187 0 18 (dk_at dksX7_init_0 16 rfl rfl)
theorem dX7_init_19 : decode cX7_init 19 = .ok (.dup, 1) := dk_89 (dk_at dksX7_init_0 19 rfl rfl)
theorem dX7_init_20 : decode cX7_init 20 = .ok (.invokespecial 20, 3) := dk_183 0 20 (dk_at dksX7_init_0 20 rfl rfl)
theorem dX7_init_23 : decode cX7_init 23 = .ok (.putfield 21, 3) := dk_181 0 21 (dk_at dksX7_init_1 0 rfl rfl)
theorem dX7_init_26 : decode cX7_init 26 = .ok (.aload_n 0, 1) := dk_42 (dk_at dksX7_init_1 3 rfl rfl)
theorem dX7_init_27 : decode cX7_init 27 = .ok (.aload_n 1, 1) := dk_43 (dk_at dksX7_init_1 4 rfl rfl)
theorem dX7_init_28 : decode cX7_init 28 = .ok (.putfield 25, 3) := dk_181 0 25 (dk_at dksX7_init_1 5 rfl rfl)
theorem dX7_init_31 : decode cX7_init 31 = .ok (.return_, 1) := dk_177 (dk_at dksX7_init_1 8 rfl rfl)
abbrev cX7_read : ByteArray := prog_17_method_9_code
def yX7_read : MethodName := ⟨RX7, "read", "()LRingDomino$Game;"⟩
def dkwX7_read_1 : List UInt8 := [181, 0, 12, 42, 182, 0, 73, 42, 180, 0, 12, 176]
abbrev dktX7_read_1 : List UInt8 := dkwX7_read_1 ++ []
def dkwX7_read_0 : List UInt8 := [42, 182, 0, 73, 42, 3, 181, 0, 29, 42, 4, 181, 0, 75, 42, 187, 0, 9, 89, 183, 0, 11]
abbrev dktX7_read_0 : List UInt8 := dkwX7_read_0 ++ dktX7_read_1
theorem dksX7_read_0 : cX7_read.data.toList.drop 0 = dktX7_read_0 := by decide +kernel
theorem dksX7_read_1 : cX7_read.data.toList.drop 22 = dktX7_read_1 := dk_seg dksX7_read_0 22 rfl rfl
theorem dX7_read_0 : decode cX7_read 0 = .ok (.aload_n 0, 1) := dk_42 (dk_at dksX7_read_0 0 rfl rfl)
theorem dX7_read_1 : decode cX7_read 1 = .ok (.invokevirtual 73, 3) := dk_182 0 73 (dk_at dksX7_read_0 1 rfl rfl)
theorem dX7_read_4 : decode cX7_read 4 = .ok (.aload_n 0, 1) := dk_42 (dk_at dksX7_read_0 4 rfl rfl)
theorem dX7_read_5 : decode cX7_read 5 = .ok (.iconst 0, 1) := dk_3 (dk_at dksX7_read_0 5 rfl rfl)
theorem dX7_read_6 : decode cX7_read 6 = .ok (.putfield 29, 3) := dk_181 0 29 (dk_at dksX7_read_0 6 rfl rfl)
theorem dX7_read_9 : decode cX7_read 9 = .ok (.aload_n 0, 1) := dk_42 (dk_at dksX7_read_0 9 rfl rfl)
theorem dX7_read_10 : decode cX7_read 10 = .ok (.iconst 1, 1) := dk_4 (dk_at dksX7_read_0 10 rfl rfl)
theorem dX7_read_11 : decode cX7_read 11 = .ok (.putfield 75, 3) := dk_181 0 75 (dk_at dksX7_read_0 11 rfl rfl)
theorem dX7_read_14 : decode cX7_read 14 = .ok (.aload_n 0, 1) := dk_42 (dk_at dksX7_read_0 14 rfl rfl)
theorem dX7_read_15 : decode cX7_read 15 = .ok (.new 9, 3) := dk_187 0 9 (dk_at dksX7_read_0 15 rfl rfl)
theorem dX7_read_18 : decode cX7_read 18 = .ok (.dup, 1) := dk_89 (dk_at dksX7_read_0 18 rfl rfl)
theorem dX7_read_19 : decode cX7_read 19 = .ok (.invokespecial 11, 3) := dk_183 0 11 (dk_at dksX7_read_0 19 rfl rfl)
theorem dX7_read_22 : decode cX7_read 22 = .ok (.putfield 12, 3) := dk_181 0 12 (dk_at dksX7_read_1 0 rfl rfl)
theorem dX7_read_25 : decode cX7_read 25 = .ok (.aload_n 0, 1) := dk_42 (dk_at dksX7_read_1 3 rfl rfl)
theorem dX7_read_26 : decode cX7_read 26 = .ok (.invokevirtual 73, 3) := dk_182 0 73 (dk_at dksX7_read_1 4 rfl rfl)
theorem dX7_read_29 : decode cX7_read 29 = .ok (.aload_n 0, 1) := dk_42 (dk_at dksX7_read_1 7 rfl rfl)
theorem dX7_read_30 : decode cX7_read 30 = .ok (.getfield 12, 3) := dk_180 0 12 (dk_at dksX7_read_1 8 rfl rfl)
theorem dX7_read_33 : decode cX7_read 33 = .ok (.areturn, 1) := dk_176 (dk_at dksX7_read_1 11 rfl rfl)
abbrev cX7_game : ByteArray := prog_17_method_14_code
def yX7_game : MethodName := ⟨RX7, "game", "()V"⟩
def dkwX7_game_4 : List UInt8 := [167, 255, 211, 177]
abbrev dktX7_game_4 : List UInt8 := dkwX7_game_4 ++ []
def dkwX7_game_3 : List UInt8 := [182, 0, 55, 153, 0, 10, 42, 182, 0, 140, 167, 0, 8, 42, 43, 182, 0, 142, 42, 18, 133, 182, 0, 69]
abbrev dktX7_game_3 : List UInt8 := dkwX7_game_3 ++ dktX7_game_4
def dkwX7_game_2 : List UInt8 := [182, 0, 69, 42, 182, 0, 43, 180, 0, 62, 178, 0, 135, 165, 0, 38, 42, 182, 0, 43, 76, 42, 18, 138]
abbrev dktX7_game_2 : List UInt8 := dkwX7_game_2 ++ dktX7_game_3
def dkwX7_game_1 : List UInt8 := [18, 128, 182, 0, 69, 42, 180, 0, 12, 42, 6, 16, 7, 182, 0, 121, 181, 0, 130, 42, 18, 133]
abbrev dktX7_game_1 : List UInt8 := dkwX7_game_1 ++ dktX7_game_2
def dkwX7_game_0 : List UInt8 := [42, 18, 119, 182, 0, 55, 153, 0, 43, 42, 180, 0, 12, 42, 6, 16, 7, 182, 0, 121, 181, 0, 125, 42]
abbrev dktX7_game_0 : List UInt8 := dkwX7_game_0 ++ dktX7_game_1
theorem dksX7_game_0 : cX7_game.data.toList.drop 0 = dktX7_game_0 := by decide +kernel
theorem dksX7_game_1 : cX7_game.data.toList.drop 24 = dktX7_game_1 := dk_seg dksX7_game_0 24 rfl rfl
theorem dksX7_game_2 : cX7_game.data.toList.drop 46 = dktX7_game_2 := dk_seg dksX7_game_1 22 rfl rfl
theorem dksX7_game_3 : cX7_game.data.toList.drop 70 = dktX7_game_3 := dk_seg dksX7_game_2 24 rfl rfl
theorem dksX7_game_4 : cX7_game.data.toList.drop 94 = dktX7_game_4 := dk_seg dksX7_game_3 24 rfl rfl
theorem dX7_game_0 : decode cX7_game 0 = .ok (.aload_n 0, 1) := dk_42 (dk_at dksX7_game_0 0 rfl rfl)
theorem dX7_game_1 : decode cX7_game 1 = .ok (.ldc 119, 2) := dk_18 119 (dk_at dksX7_game_0 1 rfl rfl)
theorem dX7_game_3 : decode cX7_game 3 = .ok (.invokevirtual 55, 3) := dk_182 0 55 (dk_at dksX7_game_0 3 rfl rfl)
theorem dX7_game_6 : decode cX7_game 6 = .ok (.ifCond .eq 43, 3) := dk_153 0 43 (dk_at dksX7_game_0 6 rfl rfl)
theorem dX7_game_9 : decode cX7_game 9 = .ok (.aload_n 0, 1) := dk_42 (dk_at dksX7_game_0 9 rfl rfl)
theorem dX7_game_10 : decode cX7_game 10 = .ok (.getfield 12, 3) := dk_180 0 12 (dk_at dksX7_game_0 10 rfl rfl)
theorem dX7_game_13 : decode cX7_game 13 = .ok (.aload_n 0, 1) := dk_42 (dk_at dksX7_game_0 13 rfl rfl)
theorem dX7_game_14 : decode cX7_game 14 = .ok (.iconst 3, 1) := dk_6 (dk_at dksX7_game_0 14 rfl rfl)
theorem dX7_game_15 : decode cX7_game 15 = .ok (.bipush 7, 2) := dk_16 7 (dk_at dksX7_game_0 15 rfl rfl)
theorem dX7_game_17 : decode cX7_game 17 = .ok (.invokevirtual 121, 3) := dk_182 0 121 (dk_at dksX7_game_0 17 rfl rfl)
theorem dX7_game_20 : decode cX7_game 20 = .ok (.putfield 125, 3) := dk_181 0 125 (dk_at dksX7_game_0 20 rfl rfl)
theorem dX7_game_23 : decode cX7_game 23 = .ok (.aload_n 0, 1) := dk_42 (dk_at dksX7_game_0 23 rfl rfl)
theorem dX7_game_24 : decode cX7_game 24 = .ok (.ldc 128, 2) := dk_18 128 (dk_at dksX7_game_1 0 rfl rfl)
theorem dX7_game_26 : decode cX7_game 26 = .ok (.invokevirtual 69, 3) := dk_182 0 69 (dk_at dksX7_game_1 2 rfl rfl)
theorem dX7_game_29 : decode cX7_game 29 = .ok (.aload_n 0, 1) := dk_42 (dk_at dksX7_game_1 5 rfl rfl)
theorem dX7_game_30 : decode cX7_game 30 = .ok (.getfield 12, 3) := dk_180 0 12 (dk_at dksX7_game_1 6 rfl rfl)
theorem dX7_game_33 : decode cX7_game 33 = .ok (.aload_n 0, 1) := dk_42 (dk_at dksX7_game_1 9 rfl rfl)
theorem dX7_game_34 : decode cX7_game 34 = .ok (.iconst 3, 1) := dk_6 (dk_at dksX7_game_1 10 rfl rfl)
theorem dX7_game_35 : decode cX7_game 35 = .ok (.bipush 7, 2) := dk_16 7 (dk_at dksX7_game_1 11 rfl rfl)
theorem dX7_game_37 : decode cX7_game 37 = .ok (.invokevirtual 121, 3) := dk_182 0 121 (dk_at dksX7_game_1 13 rfl rfl)
theorem dX7_game_40 : decode cX7_game 40 = .ok (.putfield 130, 3) := dk_181 0 130 (dk_at dksX7_game_1 16 rfl rfl)
theorem dX7_game_43 : decode cX7_game 43 = .ok (.aload_n 0, 1) := dk_42 (dk_at dksX7_game_1 19 rfl rfl)
theorem dX7_game_44 : decode cX7_game 44 = .ok (.ldc 133, 2) := dk_18 133 (dk_at dksX7_game_1 20 rfl rfl)
theorem dX7_game_46 : decode cX7_game 46 = .ok (.invokevirtual 69, 3) := dk_182 0 69 (dk_at dksX7_game_2 0 rfl rfl)
theorem dX7_game_49 : decode cX7_game 49 = .ok (.aload_n 0, 1) := dk_42 (dk_at dksX7_game_2 3 rfl rfl)
theorem dX7_game_50 : decode cX7_game 50 = .ok (.invokevirtual 43, 3) := dk_182 0 43 (dk_at dksX7_game_2 4 rfl rfl)
theorem dX7_game_53 : decode cX7_game 53 = .ok (.getfield 62, 3) := dk_180 0 62 (dk_at dksX7_game_2 7 rfl rfl)
theorem dX7_game_56 : decode cX7_game 56 = .ok (.getstatic 135, 3) := dk_178 0 135 (dk_at dksX7_game_2 10 rfl rfl)
theorem dX7_game_59 : decode cX7_game 59 = .ok (.if_acmp .eq 38, 3) := dk_165 0 38 (dk_at dksX7_game_2 13 rfl rfl)
theorem dX7_game_62 : decode cX7_game 62 = .ok (.aload_n 0, 1) := dk_42 (dk_at dksX7_game_2 16 rfl rfl)
theorem dX7_game_63 : decode cX7_game 63 = .ok (.invokevirtual 43, 3) := dk_182 0 43 (dk_at dksX7_game_2 17 rfl rfl)
theorem dX7_game_66 : decode cX7_game 66 = .ok (.astore_n 1, 1) := dk_76 (dk_at dksX7_game_2 20 rfl rfl)
theorem dX7_game_67 : decode cX7_game 67 = .ok (.aload_n 0, 1) := dk_42 (dk_at dksX7_game_2 21 rfl rfl)
theorem dX7_game_68 : decode cX7_game 68 = .ok (.ldc 138, 2) := dk_18 138 (dk_at dksX7_game_2 22 rfl rfl)
theorem dX7_game_70 : decode cX7_game 70 = .ok (.invokevirtual 55, 3) := dk_182 0 55 (dk_at dksX7_game_3 0 rfl rfl)
theorem dX7_game_73 : decode cX7_game 73 = .ok (.ifCond .eq 10, 3) := dk_153 0 10 (dk_at dksX7_game_3 3 rfl rfl)
theorem dX7_game_76 : decode cX7_game 76 = .ok (.aload_n 0, 1) := dk_42 (dk_at dksX7_game_3 6 rfl rfl)
theorem dX7_game_77 : decode cX7_game 77 = .ok (.invokevirtual 140, 3) := dk_182 0 140 (dk_at dksX7_game_3 7 rfl rfl)
theorem dX7_game_80 : decode cX7_game 80 = .ok (.goto 8, 3) := dk_167 0 8 (dk_at dksX7_game_3 10 rfl rfl)
theorem dX7_game_83 : decode cX7_game 83 = .ok (.aload_n 0, 1) := dk_42 (dk_at dksX7_game_3 13 rfl rfl)
theorem dX7_game_84 : decode cX7_game 84 = .ok (.aload_n 1, 1) := dk_43 (dk_at dksX7_game_3 14 rfl rfl)
theorem dX7_game_85 : decode cX7_game 85 = .ok (.invokevirtual 142, 3) := dk_182 0 142 (dk_at dksX7_game_3 15 rfl rfl)
theorem dX7_game_88 : decode cX7_game 88 = .ok (.aload_n 0, 1) := dk_42 (dk_at dksX7_game_3 18 rfl rfl)
theorem dX7_game_89 : decode cX7_game 89 = .ok (.ldc 133, 2) := dk_18 133 (dk_at dksX7_game_3 19 rfl rfl)
theorem dX7_game_91 : decode cX7_game 91 = .ok (.invokevirtual 69, 3) := dk_182 0 69 (dk_at dksX7_game_3 21 rfl rfl)
theorem dX7_game_94 : decode cX7_game 94 = .ok (.goto (-45), 3) := dk_167 255 211 (dk_at dksX7_game_4 0 rfl rfl)
theorem dX7_game_97 : decode cX7_game 97 = .ok (.return_, 1) := dk_177 (dk_at dksX7_game_4 3 rfl rfl)
abbrev cX7_takeIf : ByteArray := prog_17_method_4_code
def yX7_takeIf : MethodName := ⟨RX7, "takeIf", "(Ljava/lang/String;)Z"⟩
def dkwX7_takeIf_1 : List UInt8 := [172]
abbrev dktX7_takeIf_1 : List UInt8 := dkwX7_takeIf_1 ++ []
def dkwX7_takeIf_0 : List UInt8 := [42, 182, 0, 43, 43, 182, 0, 51, 61, 28, 153, 0, 13, 42, 89, 180, 0, 29, 4, 96, 181, 0, 29, 28]
abbrev dktX7_takeIf_0 : List UInt8 := dkwX7_takeIf_0 ++ dktX7_takeIf_1
theorem dksX7_takeIf_0 : cX7_takeIf.data.toList.drop 0 = dktX7_takeIf_0 := by decide +kernel
theorem dksX7_takeIf_1 : cX7_takeIf.data.toList.drop 24 = dktX7_takeIf_1 := dk_seg dksX7_takeIf_0 24 rfl rfl
theorem dX7_takeIf_0 : decode cX7_takeIf 0 = .ok (.aload_n 0, 1) := dk_42 (dk_at dksX7_takeIf_0 0 rfl rfl)
theorem dX7_takeIf_1 : decode cX7_takeIf 1 = .ok (.invokevirtual 43, 3) := dk_182 0 43 (dk_at dksX7_takeIf_0 1 rfl rfl)
theorem dX7_takeIf_4 : decode cX7_takeIf 4 = .ok (.aload_n 1, 1) := dk_43 (dk_at dksX7_takeIf_0 4 rfl rfl)
theorem dX7_takeIf_5 : decode cX7_takeIf 5 = .ok (.invokevirtual 51, 3) := dk_182 0 51 (dk_at dksX7_takeIf_0 5 rfl rfl)
theorem dX7_takeIf_8 : decode cX7_takeIf 8 = .ok (.istore_n 2, 1) := dk_61 (dk_at dksX7_takeIf_0 8 rfl rfl)
theorem dX7_takeIf_9 : decode cX7_takeIf 9 = .ok (.iload_n 2, 1) := dk_28 (dk_at dksX7_takeIf_0 9 rfl rfl)
theorem dX7_takeIf_10 : decode cX7_takeIf 10 = .ok (.ifCond .eq 13, 3) := dk_153 0 13 (dk_at dksX7_takeIf_0 10 rfl rfl)
theorem dX7_takeIf_13 : decode cX7_takeIf 13 = .ok (.aload_n 0, 1) := dk_42 (dk_at dksX7_takeIf_0 13 rfl rfl)
theorem dX7_takeIf_14 : decode cX7_takeIf 14 = .ok (.dup, 1) := dk_89 (dk_at dksX7_takeIf_0 14 rfl rfl)
theorem dX7_takeIf_15 : decode cX7_takeIf 15 = .ok (.getfield 29, 3) := dk_180 0 29 (dk_at dksX7_takeIf_0 15 rfl rfl)
theorem dX7_takeIf_18 : decode cX7_takeIf 18 = .ok (.iconst 1, 1) := dk_4 (dk_at dksX7_takeIf_0 18 rfl rfl)
theorem dX7_takeIf_19 : decode cX7_takeIf 19 = .ok (.iadd, 1) := dk_96 (dk_at dksX7_takeIf_0 19 rfl rfl)
theorem dX7_takeIf_20 : decode cX7_takeIf 20 = .ok (.putfield 29, 3) := dk_181 0 29 (dk_at dksX7_takeIf_0 20 rfl rfl)
theorem dX7_takeIf_23 : decode cX7_takeIf 23 = .ok (.iload_n 2, 1) := dk_28 (dk_at dksX7_takeIf_0 23 rfl rfl)
theorem dX7_takeIf_24 : decode cX7_takeIf 24 = .ok (.ireturn, 1) := dk_172 (dk_at dksX7_takeIf_1 0 rfl rfl)
abbrev cX7_now : ByteArray := prog_17_method_2_code
def yX7_now : MethodName := ⟨RX7, "now", "()LRingDomino$Token;"⟩
def dkwX7_now_0 : List UInt8 := [42, 180, 0, 25, 42, 180, 0, 29, 185, 0, 33, 2, 0, 192, 0, 39, 176]
abbrev dktX7_now_0 : List UInt8 := dkwX7_now_0 ++ []
theorem dksX7_now_0 : cX7_now.data.toList.drop 0 = dktX7_now_0 := by decide +kernel
theorem dX7_now_0 : decode cX7_now 0 = .ok (.aload_n 0, 1) := dk_42 (dk_at dksX7_now_0 0 rfl rfl)
theorem dX7_now_1 : decode cX7_now 1 = .ok (.getfield 25, 3) := dk_180 0 25 (dk_at dksX7_now_0 1 rfl rfl)
theorem dX7_now_4 : decode cX7_now 4 = .ok (.aload_n 0, 1) := dk_42 (dk_at dksX7_now_0 4 rfl rfl)
theorem dX7_now_5 : decode cX7_now 5 = .ok (.getfield 29, 3) := dk_180 0 29 (dk_at dksX7_now_0 5 rfl rfl)
theorem dX7_now_8 : decode cX7_now 8 = .ok (.invokeinterface 33 2, 5) := by decide +kernel
theorem dX7_now_13 : decode cX7_now 13 = .ok (.checkcast 39, 3) := dk_192 0 39 (dk_at dksX7_now_0 13 rfl rfl)
theorem dX7_now_16 : decode cX7_now 16 = .ok (.areturn, 1) := dk_176 (dk_at dksX7_now_0 16 rfl rfl)
abbrev cX7_number : ByteArray := prog_17_method_15_code
def yX7_number : MethodName := ⟨RX7, "number", "(II)I"⟩
def dkwX7_number_1 : List UInt8 := [163, 0, 7, 4, 167, 0, 4, 3, 45, 182, 0, 95, 45, 182, 0, 149, 172]
abbrev dktX7_number_1 : List UInt8 := dkwX7_number_1 ++ []
def dkwX7_number_0 : List UInt8 := [42, 178, 0, 146, 182, 0, 84, 78, 42, 8, 45, 182, 0, 149, 27, 161, 0, 15, 45, 182, 0, 149, 28]
abbrev dktX7_number_0 : List UInt8 := dkwX7_number_0 ++ dktX7_number_1
theorem dksX7_number_0 : cX7_number.data.toList.drop 0 = dktX7_number_0 := by decide +kernel
theorem dksX7_number_1 : cX7_number.data.toList.drop 23 = dktX7_number_1 := dk_seg dksX7_number_0 23 rfl rfl
theorem dX7_number_0 : decode cX7_number 0 = .ok (.aload_n 0, 1) := dk_42 (dk_at dksX7_number_0 0 rfl rfl)
theorem dX7_number_1 : decode cX7_number 1 = .ok (.getstatic 146, 3) := dk_178 0 146 (dk_at dksX7_number_0 1 rfl rfl)
theorem dX7_number_4 : decode cX7_number 4 = .ok (.invokevirtual 84, 3) := dk_182 0 84 (dk_at dksX7_number_0 4 rfl rfl)
theorem dX7_number_7 : decode cX7_number 7 = .ok (.astore_n 3, 1) := dk_78 (dk_at dksX7_number_0 7 rfl rfl)
theorem dX7_number_8 : decode cX7_number 8 = .ok (.aload_n 0, 1) := dk_42 (dk_at dksX7_number_0 8 rfl rfl)
theorem dX7_number_9 : decode cX7_number 9 = .ok (.iconst 5, 1) := dk_8 (dk_at dksX7_number_0 9 rfl rfl)
theorem dX7_number_10 : decode cX7_number 10 = .ok (.aload_n 3, 1) := dk_45 (dk_at dksX7_number_0 10 rfl rfl)
theorem dX7_number_11 : decode cX7_number 11 = .ok (.invokevirtual 149, 3) := dk_182 0 149 (dk_at dksX7_number_0 11 rfl rfl)
theorem dX7_number_14 : decode cX7_number 14 = .ok (.iload_n 1, 1) := dk_27 (dk_at dksX7_number_0 14 rfl rfl)
theorem dX7_number_15 : decode cX7_number 15 = .ok (.if_icmp .lt 15, 3) := dk_161 0 15 (dk_at dksX7_number_0 15 rfl rfl)
theorem dX7_number_18 : decode cX7_number 18 = .ok (.aload_n 3, 1) := dk_45 (dk_at dksX7_number_0 18 rfl rfl)
theorem dX7_number_19 : decode cX7_number 19 = .ok (.invokevirtual 149, 3) := dk_182 0 149 (dk_at dksX7_number_0 19 rfl rfl)
theorem dX7_number_22 : decode cX7_number 22 = .ok (.iload_n 2, 1) := dk_28 (dk_at dksX7_number_0 22 rfl rfl)
theorem dX7_number_23 : decode cX7_number 23 = .ok (.if_icmp .gt 7, 3) := dk_163 0 7 (dk_at dksX7_number_1 0 rfl rfl)
theorem dX7_number_26 : decode cX7_number 26 = .ok (.iconst 1, 1) := dk_4 (dk_at dksX7_number_1 3 rfl rfl)
theorem dX7_number_27 : decode cX7_number 27 = .ok (.goto 4, 3) := dk_167 0 4 (dk_at dksX7_number_1 4 rfl rfl)
theorem dX7_number_30 : decode cX7_number 30 = .ok (.iconst 0, 1) := dk_3 (dk_at dksX7_number_1 7 rfl rfl)
theorem dX7_number_31 : decode cX7_number 31 = .ok (.aload_n 3, 1) := dk_45 (dk_at dksX7_number_1 8 rfl rfl)
theorem dX7_number_32 : decode cX7_number 32 = .ok (.invokevirtual 95, 3) := dk_182 0 95 (dk_at dksX7_number_1 9 rfl rfl)
theorem dX7_number_35 : decode cX7_number 35 = .ok (.aload_n 3, 1) := dk_45 (dk_at dksX7_number_1 12 rfl rfl)
theorem dX7_number_36 : decode cX7_number 36 = .ok (.invokevirtual 149, 3) := dk_182 0 149 (dk_at dksX7_number_1 13 rfl rfl)
theorem dX7_number_39 : decode cX7_number 39 = .ok (.ireturn, 1) := dk_172 (dk_at dksX7_number_1 16 rfl rfl)
abbrev cX7_take : ByteArray := prog_17_method_6_code
def yX7_take : MethodName := ⟨RX7, "take", "(LRingDomino$Sort;)LRingDomino$Token;"⟩
def dkwX7_take_1 : List UInt8 := [96, 181, 0, 29, 44, 176]
abbrev dktX7_take_1 : List UInt8 := dkwX7_take_1 ++ []
def dkwX7_take_0 : List UInt8 := [42, 182, 0, 43, 77, 44, 180, 0, 62, 43, 165, 0, 8, 42, 182, 0, 58, 191, 42, 89, 180, 0, 29, 4]
abbrev dktX7_take_0 : List UInt8 := dkwX7_take_0 ++ dktX7_take_1
theorem dksX7_take_0 : cX7_take.data.toList.drop 0 = dktX7_take_0 := by decide +kernel
theorem dksX7_take_1 : cX7_take.data.toList.drop 24 = dktX7_take_1 := dk_seg dksX7_take_0 24 rfl rfl
theorem dX7_take_0 : decode cX7_take 0 = .ok (.aload_n 0, 1) := dk_42 (dk_at dksX7_take_0 0 rfl rfl)
theorem dX7_take_1 : decode cX7_take 1 = .ok (.invokevirtual 43, 3) := dk_182 0 43 (dk_at dksX7_take_0 1 rfl rfl)
theorem dX7_take_4 : decode cX7_take 4 = .ok (.astore_n 2, 1) := dk_77 (dk_at dksX7_take_0 4 rfl rfl)
theorem dX7_take_5 : decode cX7_take 5 = .ok (.aload_n 2, 1) := dk_44 (dk_at dksX7_take_0 5 rfl rfl)
theorem dX7_take_6 : decode cX7_take 6 = .ok (.getfield 62, 3) := dk_180 0 62 (dk_at dksX7_take_0 6 rfl rfl)
theorem dX7_take_9 : decode cX7_take 9 = .ok (.aload_n 1, 1) := dk_43 (dk_at dksX7_take_0 9 rfl rfl)
theorem dX7_take_10 : decode cX7_take 10 = .ok (.if_acmp .eq 8, 3) := dk_165 0 8 (dk_at dksX7_take_0 10 rfl rfl)
theorem dX7_take_13 : decode cX7_take 13 = .ok (.aload_n 0, 1) := dk_42 (dk_at dksX7_take_0 13 rfl rfl)
theorem dX7_take_14 : decode cX7_take 14 = .ok (.invokevirtual 58, 3) := dk_182 0 58 (dk_at dksX7_take_0 14 rfl rfl)
theorem dX7_take_17 : decode cX7_take 17 = .ok (.athrow, 1) := dk_191 (dk_at dksX7_take_0 17 rfl rfl)
theorem dX7_take_18 : decode cX7_take 18 = .ok (.aload_n 0, 1) := dk_42 (dk_at dksX7_take_0 18 rfl rfl)
theorem dX7_take_19 : decode cX7_take 19 = .ok (.dup, 1) := dk_89 (dk_at dksX7_take_0 19 rfl rfl)
theorem dX7_take_20 : decode cX7_take 20 = .ok (.getfield 29, 3) := dk_180 0 29 (dk_at dksX7_take_0 20 rfl rfl)
theorem dX7_take_23 : decode cX7_take 23 = .ok (.iconst 1, 1) := dk_4 (dk_at dksX7_take_0 23 rfl rfl)
theorem dX7_take_24 : decode cX7_take 24 = .ok (.iadd, 1) := dk_96 (dk_at dksX7_take_1 0 rfl rfl)
theorem dX7_take_25 : decode cX7_take 25 = .ok (.putfield 29, 3) := dk_181 0 29 (dk_at dksX7_take_1 1 rfl rfl)
theorem dX7_take_28 : decode cX7_take 28 = .ok (.aload_n 2, 1) := dk_44 (dk_at dksX7_take_1 4 rfl rfl)
theorem dX7_take_29 : decode cX7_take 29 = .ok (.areturn, 1) := dk_176 (dk_at dksX7_take_1 5 rfl rfl)
abbrev cX7_wrong : ByteArray := prog_17_method_3_code
def yX7_wrong : MethodName := ⟨RX7, "wrong", "()LRingDomino$Fault;"⟩
def dkwX7_wrong_0 : List UInt8 := [187, 0, 41, 89, 4, 42, 182, 0, 43, 180, 0, 47, 183, 0, 48, 176]
abbrev dktX7_wrong_0 : List UInt8 := dkwX7_wrong_0 ++ []
theorem dksX7_wrong_0 : cX7_wrong.data.toList.drop 0 = dktX7_wrong_0 := by decide +kernel
theorem dX7_wrong_0 : decode cX7_wrong 0 = .ok (.new 41, 3) := dk_187 0 41 (dk_at dksX7_wrong_0 0 rfl rfl)
theorem dX7_wrong_3 : decode cX7_wrong 3 = .ok (.dup, 1) := dk_89 (dk_at dksX7_wrong_0 3 rfl rfl)
theorem dX7_wrong_4 : decode cX7_wrong 4 = .ok (.iconst 1, 1) := dk_4 (dk_at dksX7_wrong_0 4 rfl rfl)
theorem dX7_wrong_5 : decode cX7_wrong 5 = .ok (.aload_n 0, 1) := dk_42 (dk_at dksX7_wrong_0 5 rfl rfl)
theorem dX7_wrong_6 : decode cX7_wrong 6 = .ok (.invokevirtual 43, 3) := dk_182 0 43 (dk_at dksX7_wrong_0 6 rfl rfl)
theorem dX7_wrong_9 : decode cX7_wrong 9 = .ok (.getfield 47, 3) := dk_180 0 47 (dk_at dksX7_wrong_0 9 rfl rfl)
theorem dX7_wrong_12 : decode cX7_wrong 12 = .ok (.invokespecial 48, 3) := dk_183 0 48 (dk_at dksX7_wrong_0 12 rfl rfl)
theorem dX7_wrong_15 : decode cX7_wrong 15 = .ok (.areturn, 1) := dk_176 (dk_at dksX7_wrong_0 15 rfl rfl)
abbrev cX7_check : ByteArray := prog_17_method_10_code
def yX7_check : MethodName := ⟨RX7, "check", "(IZLRingDomino$Token;)V"⟩
def dkwX7_check_1 : List UInt8 := [177]
abbrev dktX7_check_1 : List UInt8 := dkwX7_check_1 ++ []
def dkwX7_check_0 : List UInt8 := [42, 180, 0, 75, 153, 0, 20, 28, 154, 0, 16, 187, 0, 41, 89, 27, 45, 180, 0, 47, 183, 0, 48, 191]
abbrev dktX7_check_0 : List UInt8 := dkwX7_check_0 ++ dktX7_check_1
theorem dksX7_check_0 : cX7_check.data.toList.drop 0 = dktX7_check_0 := by decide +kernel
theorem dksX7_check_1 : cX7_check.data.toList.drop 24 = dktX7_check_1 := dk_seg dksX7_check_0 24 rfl rfl
theorem dX7_check_0 : decode cX7_check 0 = .ok (.aload_n 0, 1) := dk_42 (dk_at dksX7_check_0 0 rfl rfl)
theorem dX7_check_1 : decode cX7_check 1 = .ok (.getfield 75, 3) := dk_180 0 75 (dk_at dksX7_check_0 1 rfl rfl)
theorem dX7_check_4 : decode cX7_check 4 = .ok (.ifCond .eq 20, 3) := dk_153 0 20 (dk_at dksX7_check_0 4 rfl rfl)
theorem dX7_check_7 : decode cX7_check 7 = .ok (.iload_n 2, 1) := dk_28 (dk_at dksX7_check_0 7 rfl rfl)
theorem dX7_check_8 : decode cX7_check 8 = .ok (.ifCond .ne 16, 3) := dk_154 0 16 (dk_at dksX7_check_0 8 rfl rfl)
theorem dX7_check_11 : decode cX7_check 11 = .ok (.new 41, 3) := dk_187 0 41 (dk_at dksX7_check_0 11 rfl rfl)
theorem dX7_check_14 : decode cX7_check 14 = .ok (.dup, 1) := dk_89 (dk_at dksX7_check_0 14 rfl rfl)
theorem dX7_check_15 : decode cX7_check 15 = .ok (.iload_n 1, 1) := dk_27 (dk_at dksX7_check_0 15 rfl rfl)
theorem dX7_check_16 : decode cX7_check 16 = .ok (.aload_n 3, 1) := dk_45 (dk_at dksX7_check_0 16 rfl rfl)
theorem dX7_check_17 : decode cX7_check 17 = .ok (.getfield 47, 3) := dk_180 0 47 (dk_at dksX7_check_0 17 rfl rfl)
theorem dX7_check_20 : decode cX7_check 20 = .ok (.invokespecial 48, 3) := dk_183 0 48 (dk_at dksX7_check_0 20 rfl rfl)
theorem dX7_check_23 : decode cX7_check 23 = .ok (.athrow, 1) := dk_191 (dk_at dksX7_check_0 23 rfl rfl)
theorem dX7_check_24 : decode cX7_check 24 = .ok (.return_, 1) := dk_177 (dk_at dksX7_check_1 0 rfl rfl)
abbrev cX7_take_2 : ByteArray := prog_17_method_5_code
def yX7_take_2 : MethodName := ⟨RX7, "take", "(Ljava/lang/String;)V"⟩
def dkwX7_take_2_0 : List UInt8 := [42, 43, 182, 0, 55, 154, 0, 8, 42, 182, 0, 58, 191, 177]
abbrev dktX7_take_2_0 : List UInt8 := dkwX7_take_2_0 ++ []
theorem dksX7_take_2_0 : cX7_take_2.data.toList.drop 0 = dktX7_take_2_0 := by decide +kernel
theorem dX7_take_2_0 : decode cX7_take_2 0 = .ok (.aload_n 0, 1) := dk_42 (dk_at dksX7_take_2_0 0 rfl rfl)
theorem dX7_take_2_1 : decode cX7_take_2 1 = .ok (.aload_n 1, 1) := dk_43 (dk_at dksX7_take_2_0 1 rfl rfl)
theorem dX7_take_2_2 : decode cX7_take_2 2 = .ok (.invokevirtual 55, 3) := dk_182 0 55 (dk_at dksX7_take_2_0 2 rfl rfl)
theorem dX7_take_2_5 : decode cX7_take_2 5 = .ok (.ifCond .ne 8, 3) := dk_154 0 8 (dk_at dksX7_take_2_0 5 rfl rfl)
theorem dX7_take_2_8 : decode cX7_take_2 8 = .ok (.aload_n 0, 1) := dk_42 (dk_at dksX7_take_2_0 8 rfl rfl)
theorem dX7_take_2_9 : decode cX7_take_2 9 = .ok (.invokevirtual 58, 3) := dk_182 0 58 (dk_at dksX7_take_2_0 9 rfl rfl)
theorem dX7_take_2_12 : decode cX7_take_2 12 = .ok (.athrow, 1) := dk_191 (dk_at dksX7_take_2_0 12 rfl rfl)
theorem dX7_take_2_13 : decode cX7_take_2 13 = .ok (.return_, 1) := dk_177 (dk_at dksX7_take_2_0 13 rfl rfl)
abbrev cX7_tile : ByteArray := prog_17_method_16_code
def yX7_tile : MethodName := ⟨RX7, "tile", "()V"⟩
def dkwX7_tile_2 : List UInt8 := [42, 180, 0, 21, 43, 182, 0, 164, 177]
abbrev dktX7_tile_2 : List UInt8 := dkwX7_tile_2 ++ []
def dkwX7_tile_1 : List UInt8 := [182, 0, 121, 42, 3, 16, 9, 182, 0, 121, 42, 3, 16, 9, 182, 0, 121, 183, 0, 157, 182, 0, 160, 42]
abbrev dktX7_tile_1 : List UInt8 := dkwX7_tile_1 ++ dktX7_tile_2
def dkwX7_tile_0 : List UInt8 := [42, 42, 180, 0, 21, 16, 16, 182, 0, 151, 76, 42, 180, 0, 12, 187, 0, 155, 89, 42, 3, 16, 9]
abbrev dktX7_tile_0 : List UInt8 := dkwX7_tile_0 ++ dktX7_tile_1
theorem dksX7_tile_0 : cX7_tile.data.toList.drop 0 = dktX7_tile_0 := by decide +kernel
theorem dksX7_tile_1 : cX7_tile.data.toList.drop 23 = dktX7_tile_1 := dk_seg dksX7_tile_0 23 rfl rfl
theorem dksX7_tile_2 : cX7_tile.data.toList.drop 47 = dktX7_tile_2 := dk_seg dksX7_tile_1 24 rfl rfl
theorem dX7_tile_0 : decode cX7_tile 0 = .ok (.aload_n 0, 1) := dk_42 (dk_at dksX7_tile_0 0 rfl rfl)
theorem dX7_tile_1 : decode cX7_tile 1 = .ok (.aload_n 0, 1) := dk_42 (dk_at dksX7_tile_0 1 rfl rfl)
theorem dX7_tile_2 : decode cX7_tile 2 = .ok (.getfield 21, 3) := dk_180 0 21 (dk_at dksX7_tile_0 2 rfl rfl)
theorem dX7_tile_5 : decode cX7_tile 5 = .ok (.bipush 16, 2) := dk_16 16 (dk_at dksX7_tile_0 5 rfl rfl)
theorem dX7_tile_7 : decode cX7_tile 7 = .ok (.invokevirtual 151, 3) := dk_182 0 151 (dk_at dksX7_tile_0 7 rfl rfl)
theorem dX7_tile_10 : decode cX7_tile 10 = .ok (.astore_n 1, 1) := dk_76 (dk_at dksX7_tile_0 10 rfl rfl)
theorem dX7_tile_11 : decode cX7_tile 11 = .ok (.aload_n 0, 1) := dk_42 (dk_at dksX7_tile_0 11 rfl rfl)
theorem dX7_tile_12 : decode cX7_tile 12 = .ok (.getfield 12, 3) := dk_180 0 12 (dk_at dksX7_tile_0 12 rfl rfl)
theorem dX7_tile_15 : decode cX7_tile 15 = .ok (.new 155, 3) := dk_187 0 155 (dk_at dksX7_tile_0 15 rfl rfl)
theorem dX7_tile_18 : decode cX7_tile 18 = .ok (.dup, 1) := dk_89 (dk_at dksX7_tile_0 18 rfl rfl)
theorem dX7_tile_19 : decode cX7_tile 19 = .ok (.aload_n 0, 1) := dk_42 (dk_at dksX7_tile_0 19 rfl rfl)
theorem dX7_tile_20 : decode cX7_tile 20 = .ok (.iconst 0, 1) := dk_3 (dk_at dksX7_tile_0 20 rfl rfl)
theorem dX7_tile_21 : decode cX7_tile 21 = .ok (.bipush 9, 2) := dk_16 9 (dk_at dksX7_tile_0 21 rfl rfl)
theorem dX7_tile_23 : decode cX7_tile 23 = .ok (.invokevirtual 121, 3) := dk_182 0 121 (dk_at dksX7_tile_1 0 rfl rfl)
theorem dX7_tile_26 : decode cX7_tile 26 = .ok (.aload_n 0, 1) := dk_42 (dk_at dksX7_tile_1 3 rfl rfl)
theorem dX7_tile_27 : decode cX7_tile 27 = .ok (.iconst 0, 1) := dk_3 (dk_at dksX7_tile_1 4 rfl rfl)
theorem dX7_tile_28 : decode cX7_tile 28 = .ok (.bipush 9, 2) := dk_16 9 (dk_at dksX7_tile_1 5 rfl rfl)
theorem dX7_tile_30 : decode cX7_tile 30 = .ok (.invokevirtual 121, 3) := dk_182 0 121 (dk_at dksX7_tile_1 7 rfl rfl)
theorem dX7_tile_33 : decode cX7_tile 33 = .ok (.aload_n 0, 1) := dk_42 (dk_at dksX7_tile_1 10 rfl rfl)
theorem dX7_tile_34 : decode cX7_tile 34 = .ok (.iconst 0, 1) := dk_3 (dk_at dksX7_tile_1 11 rfl rfl)
theorem dX7_tile_35 : decode cX7_tile 35 = .ok (.bipush 9, 2) := dk_16 9 (dk_at dksX7_tile_1 12 rfl rfl)
theorem dX7_tile_37 : decode cX7_tile 37 = .ok (.invokevirtual 121, 3) := dk_182 0 121 (dk_at dksX7_tile_1 14 rfl rfl)
theorem dX7_tile_40 : decode cX7_tile 40 = .ok (.invokespecial 157, 3) := dk_183 0 157 (dk_at dksX7_tile_1 17 rfl rfl)
theorem dX7_tile_43 : decode cX7_tile 43 = .ok (.invokevirtual 160, 3) := dk_182 0 160 (dk_at dksX7_tile_1 20 rfl rfl)
theorem dX7_tile_46 : decode cX7_tile 46 = .ok (.aload_n 0, 1) := dk_42 (dk_at dksX7_tile_1 23 rfl rfl)
theorem dX7_tile_47 : decode cX7_tile 47 = .ok (.aload_n 0, 1) := dk_42 (dk_at dksX7_tile_2 0 rfl rfl)
theorem dX7_tile_48 : decode cX7_tile 48 = .ok (.getfield 21, 3) := dk_180 0 21 (dk_at dksX7_tile_2 1 rfl rfl)
theorem dX7_tile_51 : decode cX7_tile 51 = .ok (.aload_n 1, 1) := dk_43 (dk_at dksX7_tile_2 4 rfl rfl)
theorem dX7_tile_52 : decode cX7_tile 52 = .ok (.invokevirtual 164, 3) := dk_182 0 164 (dk_at dksX7_tile_2 5 rfl rfl)
theorem dX7_tile_55 : decode cX7_tile 55 = .ok (.return_, 1) := dk_177 (dk_at dksX7_tile_2 8 rfl rfl)
abbrev cX7_name : ByteArray := prog_17_method_11_code
def yX7_name : MethodName := ⟨RX7, "name", "(Ljava/util/HashMap;I)Ljava/lang/String;"⟩
def dkwX7_name_2 : List UInt8 := [182, 0, 95, 45, 180, 0, 87, 176]
abbrev dktX7_name_2 : List UInt8 := dkwX7_name_2 ++ []
def dkwX7_name_1 : List UInt8 := [167, 0, 4, 3, 45, 182, 0, 95, 42, 7, 43, 182, 0, 99, 28, 162, 0, 7, 4, 167, 0, 4, 3, 45]
abbrev dktX7_name_1 : List UInt8 := dkwX7_name_1 ++ dktX7_name_2
def dkwX7_name_0 : List UInt8 := [42, 178, 0, 79, 182, 0, 84, 78, 42, 5, 43, 45, 180, 0, 87, 182, 0, 91, 154, 0, 7, 4]
abbrev dktX7_name_0 : List UInt8 := dkwX7_name_0 ++ dktX7_name_1
theorem dksX7_name_0 : cX7_name.data.toList.drop 0 = dktX7_name_0 := by decide +kernel
theorem dksX7_name_1 : cX7_name.data.toList.drop 22 = dktX7_name_1 := dk_seg dksX7_name_0 22 rfl rfl
theorem dksX7_name_2 : cX7_name.data.toList.drop 46 = dktX7_name_2 := dk_seg dksX7_name_1 24 rfl rfl
theorem dX7_name_0 : decode cX7_name 0 = .ok (.aload_n 0, 1) := dk_42 (dk_at dksX7_name_0 0 rfl rfl)
theorem dX7_name_1 : decode cX7_name 1 = .ok (.getstatic 79, 3) := dk_178 0 79 (dk_at dksX7_name_0 1 rfl rfl)
theorem dX7_name_4 : decode cX7_name 4 = .ok (.invokevirtual 84, 3) := dk_182 0 84 (dk_at dksX7_name_0 4 rfl rfl)
theorem dX7_name_7 : decode cX7_name 7 = .ok (.astore_n 3, 1) := dk_78 (dk_at dksX7_name_0 7 rfl rfl)
theorem dX7_name_8 : decode cX7_name 8 = .ok (.aload_n 0, 1) := dk_42 (dk_at dksX7_name_0 8 rfl rfl)
theorem dX7_name_9 : decode cX7_name 9 = .ok (.iconst 2, 1) := dk_5 (dk_at dksX7_name_0 9 rfl rfl)
theorem dX7_name_10 : decode cX7_name 10 = .ok (.aload_n 1, 1) := dk_43 (dk_at dksX7_name_0 10 rfl rfl)
theorem dX7_name_11 : decode cX7_name 11 = .ok (.aload_n 3, 1) := dk_45 (dk_at dksX7_name_0 11 rfl rfl)
theorem dX7_name_12 : decode cX7_name 12 = .ok (.getfield 87, 3) := dk_180 0 87 (dk_at dksX7_name_0 12 rfl rfl)
theorem dX7_name_15 : decode cX7_name 15 = .ok (.invokevirtual 91, 3) := dk_182 0 91 (dk_at dksX7_name_0 15 rfl rfl)
theorem dX7_name_18 : decode cX7_name 18 = .ok (.ifCond .ne 7, 3) := dk_154 0 7 (dk_at dksX7_name_0 18 rfl rfl)
theorem dX7_name_21 : decode cX7_name 21 = .ok (.iconst 1, 1) := dk_4 (dk_at dksX7_name_0 21 rfl rfl)
theorem dX7_name_22 : decode cX7_name 22 = .ok (.goto 4, 3) := dk_167 0 4 (dk_at dksX7_name_1 0 rfl rfl)
theorem dX7_name_25 : decode cX7_name 25 = .ok (.iconst 0, 1) := dk_3 (dk_at dksX7_name_1 3 rfl rfl)
theorem dX7_name_26 : decode cX7_name 26 = .ok (.aload_n 3, 1) := dk_45 (dk_at dksX7_name_1 4 rfl rfl)
theorem dX7_name_27 : decode cX7_name 27 = .ok (.invokevirtual 95, 3) := dk_182 0 95 (dk_at dksX7_name_1 5 rfl rfl)
theorem dX7_name_30 : decode cX7_name 30 = .ok (.aload_n 0, 1) := dk_42 (dk_at dksX7_name_1 8 rfl rfl)
theorem dX7_name_31 : decode cX7_name 31 = .ok (.iconst 4, 1) := dk_7 (dk_at dksX7_name_1 9 rfl rfl)
theorem dX7_name_32 : decode cX7_name 32 = .ok (.aload_n 1, 1) := dk_43 (dk_at dksX7_name_1 10 rfl rfl)
theorem dX7_name_33 : decode cX7_name 33 = .ok (.invokevirtual 99, 3) := dk_182 0 99 (dk_at dksX7_name_1 11 rfl rfl)
theorem dX7_name_36 : decode cX7_name 36 = .ok (.iload_n 2, 1) := dk_28 (dk_at dksX7_name_1 14 rfl rfl)
theorem dX7_name_37 : decode cX7_name 37 = .ok (.if_icmp .ge 7, 3) := dk_162 0 7 (dk_at dksX7_name_1 15 rfl rfl)
theorem dX7_name_40 : decode cX7_name 40 = .ok (.iconst 1, 1) := dk_4 (dk_at dksX7_name_1 18 rfl rfl)
theorem dX7_name_41 : decode cX7_name 41 = .ok (.goto 4, 3) := dk_167 0 4 (dk_at dksX7_name_1 19 rfl rfl)
theorem dX7_name_44 : decode cX7_name 44 = .ok (.iconst 0, 1) := dk_3 (dk_at dksX7_name_1 22 rfl rfl)
theorem dX7_name_45 : decode cX7_name 45 = .ok (.aload_n 3, 1) := dk_45 (dk_at dksX7_name_1 23 rfl rfl)
theorem dX7_name_46 : decode cX7_name 46 = .ok (.invokevirtual 95, 3) := dk_182 0 95 (dk_at dksX7_name_2 0 rfl rfl)
theorem dX7_name_49 : decode cX7_name 49 = .ok (.aload_n 3, 1) := dk_45 (dk_at dksX7_name_2 3 rfl rfl)
theorem dX7_name_50 : decode cX7_name 50 = .ok (.getfield 87, 3) := dk_180 0 87 (dk_at dksX7_name_2 4 rfl rfl)
theorem dX7_name_53 : decode cX7_name 53 = .ok (.areturn, 1) := dk_176 (dk_at dksX7_name_2 7 rfl rfl)
abbrev cX7_put : ByteArray := prog_17_method_12_code
def yX7_put : MethodName := ⟨RX7, "put", "(Ljava/util/HashMap;Ljava/lang/String;)V"⟩
def dkwX7_put_0 : List UInt8 := [42, 180, 0, 75, 153, 0, 16, 43, 44, 43, 182, 0, 99, 184, 0, 103, 182, 0, 109, 87, 177]
abbrev dktX7_put_0 : List UInt8 := dkwX7_put_0 ++ []
theorem dksX7_put_0 : cX7_put.data.toList.drop 0 = dktX7_put_0 := by decide +kernel
theorem dX7_put_0 : decode cX7_put 0 = .ok (.aload_n 0, 1) := dk_42 (dk_at dksX7_put_0 0 rfl rfl)
theorem dX7_put_1 : decode cX7_put 1 = .ok (.getfield 75, 3) := dk_180 0 75 (dk_at dksX7_put_0 1 rfl rfl)
theorem dX7_put_4 : decode cX7_put 4 = .ok (.ifCond .eq 16, 3) := dk_153 0 16 (dk_at dksX7_put_0 4 rfl rfl)
theorem dX7_put_7 : decode cX7_put 7 = .ok (.aload_n 1, 1) := dk_43 (dk_at dksX7_put_0 7 rfl rfl)
theorem dX7_put_8 : decode cX7_put 8 = .ok (.aload_n 2, 1) := dk_44 (dk_at dksX7_put_0 8 rfl rfl)
theorem dX7_put_9 : decode cX7_put 9 = .ok (.aload_n 1, 1) := dk_43 (dk_at dksX7_put_0 9 rfl rfl)
theorem dX7_put_10 : decode cX7_put 10 = .ok (.invokevirtual 99, 3) := dk_182 0 99 (dk_at dksX7_put_0 10 rfl rfl)
theorem dX7_put_13 : decode cX7_put 13 = .ok (.invokestatic 103, 3) := dk_184 0 103 (dk_at dksX7_put_0 13 rfl rfl)
theorem dX7_put_16 : decode cX7_put 16 = .ok (.invokevirtual 109, 3) := dk_182 0 109 (dk_at dksX7_put_0 16 rfl rfl)
theorem dX7_put_19 : decode cX7_put 19 = .ok (.pop, 1) := dk_87 (dk_at dksX7_put_0 19 rfl rfl)
theorem dX7_put_20 : decode cX7_put 20 = .ok (.return_, 1) := dk_177 (dk_at dksX7_put_0 20 rfl rfl)
abbrev cX7_order : ByteArray := prog_17_method_18_code
def yX7_order : MethodName := ⟨RX7, "order", "(LRingDomino$Token;)V"⟩
def dkwX7_order_6 : List UInt8 := [183, 0, 222, 182, 0, 225, 87, 177]
abbrev dktX7_order_6 : List UInt8 := dkwX7_order_6 ++ []
def dkwX7_order_5 : List UInt8 := [25, 5, 25, 6, 42, 18, 211, 182, 0, 55, 153, 0, 10, 42, 182, 0, 213, 167, 0, 6, 184, 0, 217]
abbrev dktX7_order_5 : List UInt8 := dkwX7_order_5 ++ dktX7_order_6
def dkwX7_order_4 : List UInt8 := [182, 0, 69, 42, 182, 0, 201, 58, 6, 42, 180, 0, 12, 180, 0, 180, 187, 0, 209, 89, 44, 29, 25, 4]
abbrev dktX7_order_4 : List UInt8 := dkwX7_order_4 ++ dktX7_order_5
def dkwX7_order_3 : List UInt8 := [182, 0, 69, 42, 182, 0, 201, 58, 4, 42, 18, 205, 182, 0, 69, 42, 182, 0, 201, 58, 5, 42, 18, 207]
abbrev dktX7_order_3 : List UInt8 := dkwX7_order_3 ++ dktX7_order_4
def dkwX7_order_2 : List UInt8 := [183, 0, 193, 58, 4, 25, 4, 58, 5, 25, 4, 58, 6, 44, 178, 0, 196, 166, 0, 39, 42, 18, 200]
abbrev dktX7_order_2 : List UInt8 := dkwX7_order_2 ++ dktX7_order_3
def dkwX7_order_1 : List UInt8 := [167, 0, 4, 3, 43, 182, 0, 95, 42, 42, 180, 0, 21, 182, 0, 187, 62, 187, 0, 191, 89, 3]
abbrev dktX7_order_1 : List UInt8 := dkwX7_order_1 ++ dktX7_order_2
def dkwX7_order_0 : List UInt8 := [42, 182, 0, 176, 77, 42, 7, 42, 180, 0, 12, 180, 0, 180, 182, 0, 184, 16, 16, 162, 0, 7, 4]
abbrev dktX7_order_0 : List UInt8 := dkwX7_order_0 ++ dktX7_order_1
theorem dksX7_order_0 : cX7_order.data.toList.drop 0 = dktX7_order_0 := by decide +kernel
theorem dksX7_order_1 : cX7_order.data.toList.drop 23 = dktX7_order_1 := dk_seg dksX7_order_0 23 rfl rfl
theorem dksX7_order_2 : cX7_order.data.toList.drop 45 = dktX7_order_2 := dk_seg dksX7_order_1 22 rfl rfl
theorem dksX7_order_3 : cX7_order.data.toList.drop 68 = dktX7_order_3 := dk_seg dksX7_order_2 23 rfl rfl
theorem dksX7_order_4 : cX7_order.data.toList.drop 92 = dktX7_order_4 := dk_seg dksX7_order_3 24 rfl rfl
theorem dksX7_order_5 : cX7_order.data.toList.drop 116 = dktX7_order_5 := dk_seg dksX7_order_4 24 rfl rfl
theorem dksX7_order_6 : cX7_order.data.toList.drop 139 = dktX7_order_6 := dk_seg dksX7_order_5 23 rfl rfl
theorem dX7_order_0 : decode cX7_order 0 = .ok (.aload_n 0, 1) := dk_42 (dk_at dksX7_order_0 0 rfl rfl)
theorem dX7_order_1 : decode cX7_order 1 = .ok (.invokevirtual 176, 3) := dk_182 0 176 (dk_at dksX7_order_0 1 rfl rfl)
theorem dX7_order_4 : decode cX7_order 4 = .ok (.astore_n 2, 1) := dk_77 (dk_at dksX7_order_0 4 rfl rfl)
theorem dX7_order_5 : decode cX7_order 5 = .ok (.aload_n 0, 1) := dk_42 (dk_at dksX7_order_0 5 rfl rfl)
theorem dX7_order_6 : decode cX7_order 6 = .ok (.iconst 4, 1) := dk_7 (dk_at dksX7_order_0 6 rfl rfl)
theorem dX7_order_7 : decode cX7_order 7 = .ok (.aload_n 0, 1) := dk_42 (dk_at dksX7_order_0 7 rfl rfl)
theorem dX7_order_8 : decode cX7_order 8 = .ok (.getfield 12, 3) := dk_180 0 12 (dk_at dksX7_order_0 8 rfl rfl)
theorem dX7_order_11 : decode cX7_order 11 = .ok (.getfield 180, 3) := dk_180 0 180 (dk_at dksX7_order_0 11 rfl rfl)
theorem dX7_order_14 : decode cX7_order 14 = .ok (.invokevirtual 184, 3) := dk_182 0 184 (dk_at dksX7_order_0 14 rfl rfl)
theorem dX7_order_17 : decode cX7_order 17 = .ok (.bipush 16, 2) := dk_16 16 (dk_at dksX7_order_0 17 rfl rfl)
theorem dX7_order_19 : decode cX7_order 19 = .ok (.if_icmp .ge 7, 3) := dk_162 0 7 (dk_at dksX7_order_0 19 rfl rfl)
theorem dX7_order_22 : decode cX7_order 22 = .ok (.iconst 1, 1) := dk_4 (dk_at dksX7_order_0 22 rfl rfl)
theorem dX7_order_23 : decode cX7_order 23 = .ok (.goto 4, 3) := dk_167 0 4 (dk_at dksX7_order_1 0 rfl rfl)
theorem dX7_order_26 : decode cX7_order 26 = .ok (.iconst 0, 1) := dk_3 (dk_at dksX7_order_1 3 rfl rfl)
theorem dX7_order_27 : decode cX7_order 27 = .ok (.aload_n 1, 1) := dk_43 (dk_at dksX7_order_1 4 rfl rfl)
theorem dX7_order_28 : decode cX7_order 28 = .ok (.invokevirtual 95, 3) := dk_182 0 95 (dk_at dksX7_order_1 5 rfl rfl)
theorem dX7_order_31 : decode cX7_order 31 = .ok (.aload_n 0, 1) := dk_42 (dk_at dksX7_order_1 8 rfl rfl)
theorem dX7_order_32 : decode cX7_order 32 = .ok (.aload_n 0, 1) := dk_42 (dk_at dksX7_order_1 9 rfl rfl)
theorem dX7_order_33 : decode cX7_order 33 = .ok (.getfield 21, 3) := dk_180 0 21 (dk_at dksX7_order_1 10 rfl rfl)
theorem dX7_order_36 : decode cX7_order 36 = .ok (.invokevirtual 187, 3) := dk_182 0 187 (dk_at dksX7_order_1 13 rfl rfl)
theorem dX7_order_39 : decode cX7_order 39 = .ok (.istore_n 3, 1) := dk_62 (dk_at dksX7_order_1 16 rfl rfl)
theorem dX7_order_40 : decode cX7_order 40 = .ok (.new 191, 3) := dk_187 0 191 (dk_at dksX7_order_1 17 rfl rfl)
theorem dX7_order_43 : decode cX7_order 43 = .ok (.dup, 1) := dk_89 (dk_at dksX7_order_1 20 rfl rfl)
theorem dX7_order_44 : decode cX7_order 44 = .ok (.iconst 0, 1) := dk_3 (dk_at dksX7_order_1 21 rfl rfl)
theorem dX7_order_45 : decode cX7_order 45 = .ok (.invokespecial 193, 3) := dk_183 0 193 (dk_at dksX7_order_2 0 rfl rfl)
theorem dX7_order_48 : decode cX7_order 48 = .ok (.astore 4, 2) := dk_58 4 (dk_at dksX7_order_2 3 rfl rfl)
theorem dX7_order_50 : decode cX7_order 50 = .ok (.aload 4, 2) := dk_25 4 (dk_at dksX7_order_2 5 rfl rfl)
theorem dX7_order_52 : decode cX7_order 52 = .ok (.astore 5, 2) := dk_58 5 (dk_at dksX7_order_2 7 rfl rfl)
theorem dX7_order_54 : decode cX7_order 54 = .ok (.aload 4, 2) := dk_25 4 (dk_at dksX7_order_2 9 rfl rfl)
theorem dX7_order_56 : decode cX7_order 56 = .ok (.astore 6, 2) := dk_58 6 (dk_at dksX7_order_2 11 rfl rfl)
theorem dX7_order_58 : decode cX7_order 58 = .ok (.aload_n 2, 1) := dk_44 (dk_at dksX7_order_2 13 rfl rfl)
theorem dX7_order_59 : decode cX7_order 59 = .ok (.getstatic 196, 3) := dk_178 0 196 (dk_at dksX7_order_2 14 rfl rfl)
theorem dX7_order_62 : decode cX7_order 62 = .ok (.if_acmp .ne 39, 3) := dk_166 0 39 (dk_at dksX7_order_2 17 rfl rfl)
theorem dX7_order_65 : decode cX7_order 65 = .ok (.aload_n 0, 1) := dk_42 (dk_at dksX7_order_2 20 rfl rfl)
theorem dX7_order_66 : decode cX7_order 66 = .ok (.ldc 200, 2) := dk_18 200 (dk_at dksX7_order_2 21 rfl rfl)
theorem dX7_order_68 : decode cX7_order 68 = .ok (.invokevirtual 69, 3) := dk_182 0 69 (dk_at dksX7_order_3 0 rfl rfl)
theorem dX7_order_71 : decode cX7_order 71 = .ok (.aload_n 0, 1) := dk_42 (dk_at dksX7_order_3 3 rfl rfl)
theorem dX7_order_72 : decode cX7_order 72 = .ok (.invokevirtual 201, 3) := dk_182 0 201 (dk_at dksX7_order_3 4 rfl rfl)
theorem dX7_order_75 : decode cX7_order 75 = .ok (.astore 4, 2) := dk_58 4 (dk_at dksX7_order_3 7 rfl rfl)
theorem dX7_order_77 : decode cX7_order 77 = .ok (.aload_n 0, 1) := dk_42 (dk_at dksX7_order_3 9 rfl rfl)
theorem dX7_order_78 : decode cX7_order 78 = .ok (.ldc 205, 2) := dk_18 205 (dk_at dksX7_order_3 10 rfl rfl)
theorem dX7_order_80 : decode cX7_order 80 = .ok (.invokevirtual 69, 3) := dk_182 0 69 (dk_at dksX7_order_3 12 rfl rfl)
theorem dX7_order_83 : decode cX7_order 83 = .ok (.aload_n 0, 1) := dk_42 (dk_at dksX7_order_3 15 rfl rfl)
theorem dX7_order_84 : decode cX7_order 84 = .ok (.invokevirtual 201, 3) := dk_182 0 201 (dk_at dksX7_order_3 16 rfl rfl)
theorem dX7_order_87 : decode cX7_order 87 = .ok (.astore 5, 2) := dk_58 5 (dk_at dksX7_order_3 19 rfl rfl)
theorem dX7_order_89 : decode cX7_order 89 = .ok (.aload_n 0, 1) := dk_42 (dk_at dksX7_order_3 21 rfl rfl)
theorem dX7_order_90 : decode cX7_order 90 = .ok (.ldc 207, 2) := dk_18 207 (dk_at dksX7_order_3 22 rfl rfl)
theorem dX7_order_92 : decode cX7_order 92 = .ok (.invokevirtual 69, 3) := dk_182 0 69 (dk_at dksX7_order_4 0 rfl rfl)
theorem dX7_order_95 : decode cX7_order 95 = .ok (.aload_n 0, 1) := dk_42 (dk_at dksX7_order_4 3 rfl rfl)
theorem dX7_order_96 : decode cX7_order 96 = .ok (.invokevirtual 201, 3) := dk_182 0 201 (dk_at dksX7_order_4 4 rfl rfl)
theorem dX7_order_99 : decode cX7_order 99 = .ok (.astore 6, 2) := dk_58 6 (dk_at dksX7_order_4 7 rfl rfl)
theorem dX7_order_101 : decode cX7_order 101 = .ok (.aload_n 0, 1) := dk_42 (dk_at dksX7_order_4 9 rfl rfl)
theorem dX7_order_102 : decode cX7_order 102 = .ok (.getfield 12, 3) := dk_180 0 12 (dk_at dksX7_order_4 10 rfl rfl)
theorem dX7_order_105 : decode cX7_order 105 = .ok (.getfield 180, 3) := dk_180 0 180 (dk_at dksX7_order_4 13 rfl rfl)
theorem dX7_order_108 : decode cX7_order 108 = .ok (.new 209, 3) := dk_187 0 209 (dk_at dksX7_order_4 16 rfl rfl)
theorem dX7_order_111 : decode cX7_order 111 = .ok (.dup, 1) := dk_89 (dk_at dksX7_order_4 19 rfl rfl)
theorem dX7_order_112 : decode cX7_order 112 = .ok (.aload_n 2, 1) := dk_44 (dk_at dksX7_order_4 20 rfl rfl)
theorem dX7_order_113 : decode cX7_order 113 = .ok (.iload_n 3, 1) := dk_29 (dk_at dksX7_order_4 21 rfl rfl)
theorem dX7_order_114 : decode cX7_order 114 = .ok (.aload 4, 2) := dk_25 4 (dk_at dksX7_order_4 22 rfl rfl)
theorem dX7_order_116 : decode cX7_order 116 = .ok (.aload 5, 2) := dk_25 5 (dk_at dksX7_order_5 0 rfl rfl)
theorem dX7_order_118 : decode cX7_order 118 = .ok (.aload 6, 2) := dk_25 6 (dk_at dksX7_order_5 2 rfl rfl)
theorem dX7_order_120 : decode cX7_order 120 = .ok (.aload_n 0, 1) := dk_42 (dk_at dksX7_order_5 4 rfl rfl)
theorem dX7_order_121 : decode cX7_order 121 = .ok (.ldc 211, 2) := dk_18 211 (dk_at dksX7_order_5 5 rfl rfl)
theorem dX7_order_123 : decode cX7_order 123 = .ok (.invokevirtual 55, 3) := dk_182 0 55 (dk_at dksX7_order_5 7 rfl rfl)
theorem dX7_order_126 : decode cX7_order 126 = .ok (.ifCond .eq 10, 3) := dk_153 0 10 (dk_at dksX7_order_5 10 rfl rfl)
theorem dX7_order_129 : decode cX7_order 129 = .ok (.aload_n 0, 1) := dk_42 (dk_at dksX7_order_5 13 rfl rfl)
theorem dX7_order_130 : decode cX7_order 130 = .ok (.invokevirtual 213, 3) := dk_182 0 213 (dk_at dksX7_order_5 14 rfl rfl)
theorem dX7_order_133 : decode cX7_order 133 = .ok (.goto 6, 3) := dk_167 0 6 (dk_at dksX7_order_5 17 rfl rfl)
theorem dX7_order_136 : decode cX7_order 136 = .ok (.invokestatic 217, 3) := dk_184 0 217 (dk_at dksX7_order_5 20 rfl rfl)
theorem dX7_order_139 : decode cX7_order 139 = .ok (.invokespecial 222, 3) := dk_183 0 222 (dk_at dksX7_order_6 0 rfl rfl)
theorem dX7_order_142 : decode cX7_order 142 = .ok (.invokevirtual 225, 3) := dk_182 0 225 (dk_at dksX7_order_6 3 rfl rfl)
theorem dX7_order_145 : decode cX7_order 145 = .ok (.pop, 1) := dk_87 (dk_at dksX7_order_6 6 rfl rfl)
theorem dX7_order_146 : decode cX7_order 146 = .ok (.return_, 1) := dk_177 (dk_at dksX7_order_6 7 rfl rfl)
abbrev cX7_craft : ByteArray := prog_17_method_17_code
def yX7_craft : MethodName := ⟨RX7, "craft", "()LRingDomino$Craft;"⟩
def dkwX7_craft_1 : List UInt8 := [180, 0, 173, 182, 0, 55, 153, 0, 6, 25, 4, 176, 132, 3, 1, 167, 255, 228, 42, 182, 0, 58, 191]
abbrev dktX7_craft_1 : List UInt8 := dkwX7_craft_1 ++ []
def dkwX7_craft_0 : List UInt8 := [178, 0, 167, 76, 43, 190, 61, 3, 62, 29, 28, 162, 0, 29, 43, 29, 50, 58, 4, 42, 25, 4]
abbrev dktX7_craft_0 : List UInt8 := dkwX7_craft_0 ++ dktX7_craft_1
theorem dksX7_craft_0 : cX7_craft.data.toList.drop 0 = dktX7_craft_0 := by decide +kernel
theorem dksX7_craft_1 : cX7_craft.data.toList.drop 22 = dktX7_craft_1 := dk_seg dksX7_craft_0 22 rfl rfl
theorem dX7_craft_0 : decode cX7_craft 0 = .ok (.getstatic 167, 3) := dk_178 0 167 (dk_at dksX7_craft_0 0 rfl rfl)
theorem dX7_craft_3 : decode cX7_craft 3 = .ok (.astore_n 1, 1) := dk_76 (dk_at dksX7_craft_0 3 rfl rfl)
theorem dX7_craft_4 : decode cX7_craft 4 = .ok (.aload_n 1, 1) := dk_43 (dk_at dksX7_craft_0 4 rfl rfl)
theorem dX7_craft_5 : decode cX7_craft 5 = .ok (.arraylength, 1) := dk_190 (dk_at dksX7_craft_0 5 rfl rfl)
theorem dX7_craft_6 : decode cX7_craft 6 = .ok (.istore_n 2, 1) := dk_61 (dk_at dksX7_craft_0 6 rfl rfl)
theorem dX7_craft_7 : decode cX7_craft 7 = .ok (.iconst 0, 1) := dk_3 (dk_at dksX7_craft_0 7 rfl rfl)
theorem dX7_craft_8 : decode cX7_craft 8 = .ok (.istore_n 3, 1) := dk_62 (dk_at dksX7_craft_0 8 rfl rfl)
theorem dX7_craft_9 : decode cX7_craft 9 = .ok (.iload_n 3, 1) := dk_29 (dk_at dksX7_craft_0 9 rfl rfl)
theorem dX7_craft_10 : decode cX7_craft 10 = .ok (.iload_n 2, 1) := dk_28 (dk_at dksX7_craft_0 10 rfl rfl)
theorem dX7_craft_11 : decode cX7_craft 11 = .ok (.if_icmp .ge 29, 3) := dk_162 0 29 (dk_at dksX7_craft_0 11 rfl rfl)
theorem dX7_craft_14 : decode cX7_craft 14 = .ok (.aload_n 1, 1) := dk_43 (dk_at dksX7_craft_0 14 rfl rfl)
theorem dX7_craft_15 : decode cX7_craft 15 = .ok (.iload_n 3, 1) := dk_29 (dk_at dksX7_craft_0 15 rfl rfl)
theorem dX7_craft_16 : decode cX7_craft 16 = .ok (.aaload, 1) := dk_50 (dk_at dksX7_craft_0 16 rfl rfl)
theorem dX7_craft_17 : decode cX7_craft 17 = .ok (.astore 4, 2) := dk_58 4 (dk_at dksX7_craft_0 17 rfl rfl)
theorem dX7_craft_19 : decode cX7_craft 19 = .ok (.aload_n 0, 1) := dk_42 (dk_at dksX7_craft_0 19 rfl rfl)
theorem dX7_craft_20 : decode cX7_craft 20 = .ok (.aload 4, 2) := dk_25 4 (dk_at dksX7_craft_0 20 rfl rfl)
theorem dX7_craft_22 : decode cX7_craft 22 = .ok (.getfield 173, 3) := dk_180 0 173 (dk_at dksX7_craft_1 0 rfl rfl)
theorem dX7_craft_25 : decode cX7_craft 25 = .ok (.invokevirtual 55, 3) := dk_182 0 55 (dk_at dksX7_craft_1 3 rfl rfl)
theorem dX7_craft_28 : decode cX7_craft 28 = .ok (.ifCond .eq 6, 3) := dk_153 0 6 (dk_at dksX7_craft_1 6 rfl rfl)
theorem dX7_craft_31 : decode cX7_craft 31 = .ok (.aload 4, 2) := dk_25 4 (dk_at dksX7_craft_1 9 rfl rfl)
theorem dX7_craft_33 : decode cX7_craft 33 = .ok (.areturn, 1) := dk_176 (dk_at dksX7_craft_1 11 rfl rfl)
theorem dX7_craft_34 : decode cX7_craft 34 = .ok (.iinc 3 1, 3) := dk_132 3 1 (dk_at dksX7_craft_1 12 rfl rfl)
theorem dX7_craft_37 : decode cX7_craft 37 = .ok (.goto (-28), 3) := dk_167 255 228 (dk_at dksX7_craft_1 15 rfl rfl)
theorem dX7_craft_40 : decode cX7_craft 40 = .ok (.aload_n 0, 1) := dk_42 (dk_at dksX7_craft_1 18 rfl rfl)
theorem dX7_craft_41 : decode cX7_craft 41 = .ok (.invokevirtual 58, 3) := dk_182 0 58 (dk_at dksX7_craft_1 19 rfl rfl)
theorem dX7_craft_44 : decode cX7_craft 44 = .ok (.athrow, 1) := dk_191 (dk_at dksX7_craft_1 22 rfl rfl)
abbrev cX7_known : ByteArray := prog_17_method_13_code
def yX7_known : MethodName := ⟨RX7, "known", "(Ljava/util/HashMap;)I"⟩
def dkwX7_known_2 : List UInt8 := [172]
abbrev dktX7_known_2 : List UInt8 := dkwX7_known_2 ++ []
def dkwX7_known_1 : List UInt8 := [180, 0, 75, 153, 0, 20, 43, 44, 180, 0, 87, 182, 0, 113, 192, 0, 104, 182, 0, 116, 167, 0, 4, 3]
abbrev dktX7_known_1 : List UInt8 := dkwX7_known_1 ++ dktX7_known_2
def dkwX7_known_0 : List UInt8 := [42, 178, 0, 79, 182, 0, 84, 77, 42, 6, 43, 44, 180, 0, 87, 182, 0, 91, 44, 182, 0, 95, 42]
abbrev dktX7_known_0 : List UInt8 := dkwX7_known_0 ++ dktX7_known_1
theorem dksX7_known_0 : cX7_known.data.toList.drop 0 = dktX7_known_0 := by decide +kernel
theorem dksX7_known_1 : cX7_known.data.toList.drop 23 = dktX7_known_1 := dk_seg dksX7_known_0 23 rfl rfl
theorem dksX7_known_2 : cX7_known.data.toList.drop 47 = dktX7_known_2 := dk_seg dksX7_known_1 24 rfl rfl
theorem dX7_known_0 : decode cX7_known 0 = .ok (.aload_n 0, 1) := dk_42 (dk_at dksX7_known_0 0 rfl rfl)
theorem dX7_known_1 : decode cX7_known 1 = .ok (.getstatic 79, 3) := dk_178 0 79 (dk_at dksX7_known_0 1 rfl rfl)
theorem dX7_known_4 : decode cX7_known 4 = .ok (.invokevirtual 84, 3) := dk_182 0 84 (dk_at dksX7_known_0 4 rfl rfl)
theorem dX7_known_7 : decode cX7_known 7 = .ok (.astore_n 2, 1) := dk_77 (dk_at dksX7_known_0 7 rfl rfl)
theorem dX7_known_8 : decode cX7_known 8 = .ok (.aload_n 0, 1) := dk_42 (dk_at dksX7_known_0 8 rfl rfl)
theorem dX7_known_9 : decode cX7_known 9 = .ok (.iconst 3, 1) := dk_6 (dk_at dksX7_known_0 9 rfl rfl)
theorem dX7_known_10 : decode cX7_known 10 = .ok (.aload_n 1, 1) := dk_43 (dk_at dksX7_known_0 10 rfl rfl)
theorem dX7_known_11 : decode cX7_known 11 = .ok (.aload_n 2, 1) := dk_44 (dk_at dksX7_known_0 11 rfl rfl)
theorem dX7_known_12 : decode cX7_known 12 = .ok (.getfield 87, 3) := dk_180 0 87 (dk_at dksX7_known_0 12 rfl rfl)
theorem dX7_known_15 : decode cX7_known 15 = .ok (.invokevirtual 91, 3) := dk_182 0 91 (dk_at dksX7_known_0 15 rfl rfl)
theorem dX7_known_18 : decode cX7_known 18 = .ok (.aload_n 2, 1) := dk_44 (dk_at dksX7_known_0 18 rfl rfl)
theorem dX7_known_19 : decode cX7_known 19 = .ok (.invokevirtual 95, 3) := dk_182 0 95 (dk_at dksX7_known_0 19 rfl rfl)
theorem dX7_known_22 : decode cX7_known 22 = .ok (.aload_n 0, 1) := dk_42 (dk_at dksX7_known_0 22 rfl rfl)
theorem dX7_known_23 : decode cX7_known 23 = .ok (.getfield 75, 3) := dk_180 0 75 (dk_at dksX7_known_1 0 rfl rfl)
theorem dX7_known_26 : decode cX7_known 26 = .ok (.ifCond .eq 20, 3) := dk_153 0 20 (dk_at dksX7_known_1 3 rfl rfl)
theorem dX7_known_29 : decode cX7_known 29 = .ok (.aload_n 1, 1) := dk_43 (dk_at dksX7_known_1 6 rfl rfl)
theorem dX7_known_30 : decode cX7_known 30 = .ok (.aload_n 2, 1) := dk_44 (dk_at dksX7_known_1 7 rfl rfl)
theorem dX7_known_31 : decode cX7_known 31 = .ok (.getfield 87, 3) := dk_180 0 87 (dk_at dksX7_known_1 8 rfl rfl)
theorem dX7_known_34 : decode cX7_known 34 = .ok (.invokevirtual 113, 3) := dk_182 0 113 (dk_at dksX7_known_1 11 rfl rfl)
theorem dX7_known_37 : decode cX7_known 37 = .ok (.checkcast 104, 3) := dk_192 0 104 (dk_at dksX7_known_1 14 rfl rfl)
theorem dX7_known_40 : decode cX7_known 40 = .ok (.invokevirtual 116, 3) := dk_182 0 116 (dk_at dksX7_known_1 17 rfl rfl)
theorem dX7_known_43 : decode cX7_known 43 = .ok (.goto 4, 3) := dk_167 0 4 (dk_at dksX7_known_1 20 rfl rfl)
theorem dX7_known_46 : decode cX7_known 46 = .ok (.iconst 0, 1) := dk_3 (dk_at dksX7_known_1 23 rfl rfl)
theorem dX7_known_47 : decode cX7_known 47 = .ok (.ireturn, 1) := dk_172 (dk_at dksX7_known_2 0 rfl rfl)
abbrev cX7_sum : ByteArray := prog_17_method_22_code
def yX7_sum : MethodName := ⟨RX7, "sum", "()LRingDomino$Sum;"⟩
def dkwX7_sum_3 : List UInt8 := [89, 44, 43, 42, 182, 1, 36, 183, 1, 54, 76, 167, 255, 182, 43, 176]
abbrev dktX7_sum_3 : List UInt8 := dkwX7_sum_3 ++ []
def dkwX7_sum_2 : List UInt8 := [167, 0, 6, 178, 1, 49, 77, 44, 178, 1, 49, 166, 0, 10, 42, 19, 1, 41, 182, 0, 69, 187, 1, 52]
abbrev dktX7_sum_2 : List UInt8 := dkwX7_sum_2 ++ dktX7_sum_3
def dkwX7_sum_1 : List UInt8 := [19, 1, 41, 182, 0, 51, 153, 0, 54, 42, 19, 1, 39, 182, 0, 55, 153, 0, 9, 178, 1, 43]
abbrev dktX7_sum_1 : List UInt8 := dkwX7_sum_1 ++ dktX7_sum_2
def dkwX7_sum_0 : List UInt8 := [42, 182, 1, 36, 76, 42, 182, 0, 43, 19, 1, 39, 182, 0, 51, 154, 0, 16, 42, 182, 0, 43]
abbrev dktX7_sum_0 : List UInt8 := dkwX7_sum_0 ++ dktX7_sum_1
theorem dksX7_sum_0 : cX7_sum.data.toList.drop 0 = dktX7_sum_0 := by decide +kernel
theorem dksX7_sum_1 : cX7_sum.data.toList.drop 22 = dktX7_sum_1 := dk_seg dksX7_sum_0 22 rfl rfl
theorem dksX7_sum_2 : cX7_sum.data.toList.drop 44 = dktX7_sum_2 := dk_seg dksX7_sum_1 22 rfl rfl
theorem dksX7_sum_3 : cX7_sum.data.toList.drop 68 = dktX7_sum_3 := dk_seg dksX7_sum_2 24 rfl rfl
theorem dX7_sum_0 : decode cX7_sum 0 = .ok (.aload_n 0, 1) := dk_42 (dk_at dksX7_sum_0 0 rfl rfl)
theorem dX7_sum_1 : decode cX7_sum 1 = .ok (.invokevirtual 292, 3) := dk_182 1 36 (dk_at dksX7_sum_0 1 rfl rfl)
theorem dX7_sum_4 : decode cX7_sum 4 = .ok (.astore_n 1, 1) := dk_76 (dk_at dksX7_sum_0 4 rfl rfl)
theorem dX7_sum_5 : decode cX7_sum 5 = .ok (.aload_n 0, 1) := dk_42 (dk_at dksX7_sum_0 5 rfl rfl)
theorem dX7_sum_6 : decode cX7_sum 6 = .ok (.invokevirtual 43, 3) := dk_182 0 43 (dk_at dksX7_sum_0 6 rfl rfl)
theorem dX7_sum_9 : decode cX7_sum 9 = .ok (.ldc_w 295, 3) := dk_19 1 39 (dk_at dksX7_sum_0 9 rfl rfl)
theorem dX7_sum_12 : decode cX7_sum 12 = .ok (.invokevirtual 51, 3) := dk_182 0 51 (dk_at dksX7_sum_0 12 rfl rfl)
theorem dX7_sum_15 : decode cX7_sum 15 = .ok (.ifCond .ne 16, 3) := dk_154 0 16 (dk_at dksX7_sum_0 15 rfl rfl)
theorem dX7_sum_18 : decode cX7_sum 18 = .ok (.aload_n 0, 1) := dk_42 (dk_at dksX7_sum_0 18 rfl rfl)
theorem dX7_sum_19 : decode cX7_sum 19 = .ok (.invokevirtual 43, 3) := dk_182 0 43 (dk_at dksX7_sum_0 19 rfl rfl)
theorem dX7_sum_22 : decode cX7_sum 22 = .ok (.ldc_w 297, 3) := dk_19 1 41 (dk_at dksX7_sum_1 0 rfl rfl)
theorem dX7_sum_25 : decode cX7_sum 25 = .ok (.invokevirtual 51, 3) := dk_182 0 51 (dk_at dksX7_sum_1 3 rfl rfl)
theorem dX7_sum_28 : decode cX7_sum 28 = .ok (.ifCond .eq 54, 3) := dk_153 0 54 (dk_at dksX7_sum_1 6 rfl rfl)
theorem dX7_sum_31 : decode cX7_sum 31 = .ok (.aload_n 0, 1) := dk_42 (dk_at dksX7_sum_1 9 rfl rfl)
theorem dX7_sum_32 : decode cX7_sum 32 = .ok (.ldc_w 295, 3) := dk_19 1 39 (dk_at dksX7_sum_1 10 rfl rfl)
theorem dX7_sum_35 : decode cX7_sum 35 = .ok (.invokevirtual 55, 3) := dk_182 0 55 (dk_at dksX7_sum_1 13 rfl rfl)
theorem dX7_sum_38 : decode cX7_sum 38 = .ok (.ifCond .eq 9, 3) := dk_153 0 9 (dk_at dksX7_sum_1 16 rfl rfl)
theorem dX7_sum_41 : decode cX7_sum 41 = .ok (.getstatic 299, 3) := dk_178 1 43 (dk_at dksX7_sum_1 19 rfl rfl)
theorem dX7_sum_44 : decode cX7_sum 44 = .ok (.goto 6, 3) := dk_167 0 6 (dk_at dksX7_sum_2 0 rfl rfl)
theorem dX7_sum_47 : decode cX7_sum 47 = .ok (.getstatic 305, 3) := dk_178 1 49 (dk_at dksX7_sum_2 3 rfl rfl)
theorem dX7_sum_50 : decode cX7_sum 50 = .ok (.astore_n 2, 1) := dk_77 (dk_at dksX7_sum_2 6 rfl rfl)
theorem dX7_sum_51 : decode cX7_sum 51 = .ok (.aload_n 2, 1) := dk_44 (dk_at dksX7_sum_2 7 rfl rfl)
theorem dX7_sum_52 : decode cX7_sum 52 = .ok (.getstatic 305, 3) := dk_178 1 49 (dk_at dksX7_sum_2 8 rfl rfl)
theorem dX7_sum_55 : decode cX7_sum 55 = .ok (.if_acmp .ne 10, 3) := dk_166 0 10 (dk_at dksX7_sum_2 11 rfl rfl)
theorem dX7_sum_58 : decode cX7_sum 58 = .ok (.aload_n 0, 1) := dk_42 (dk_at dksX7_sum_2 14 rfl rfl)
theorem dX7_sum_59 : decode cX7_sum 59 = .ok (.ldc_w 297, 3) := dk_19 1 41 (dk_at dksX7_sum_2 15 rfl rfl)
theorem dX7_sum_62 : decode cX7_sum 62 = .ok (.invokevirtual 69, 3) := dk_182 0 69 (dk_at dksX7_sum_2 18 rfl rfl)
theorem dX7_sum_65 : decode cX7_sum 65 = .ok (.new 308, 3) := dk_187 1 52 (dk_at dksX7_sum_2 21 rfl rfl)
theorem dX7_sum_68 : decode cX7_sum 68 = .ok (.dup, 1) := dk_89 (dk_at dksX7_sum_3 0 rfl rfl)
theorem dX7_sum_69 : decode cX7_sum 69 = .ok (.aload_n 2, 1) := dk_44 (dk_at dksX7_sum_3 1 rfl rfl)
theorem dX7_sum_70 : decode cX7_sum 70 = .ok (.aload_n 1, 1) := dk_43 (dk_at dksX7_sum_3 2 rfl rfl)
theorem dX7_sum_71 : decode cX7_sum 71 = .ok (.aload_n 0, 1) := dk_42 (dk_at dksX7_sum_3 3 rfl rfl)
theorem dX7_sum_72 : decode cX7_sum 72 = .ok (.invokevirtual 292, 3) := dk_182 1 36 (dk_at dksX7_sum_3 4 rfl rfl)
theorem dX7_sum_75 : decode cX7_sum 75 = .ok (.invokespecial 310, 3) := dk_183 1 54 (dk_at dksX7_sum_3 7 rfl rfl)
theorem dX7_sum_78 : decode cX7_sum 78 = .ok (.astore_n 1, 1) := dk_76 (dk_at dksX7_sum_3 10 rfl rfl)
theorem dX7_sum_79 : decode cX7_sum 79 = .ok (.goto (-74), 3) := dk_167 255 182 (dk_at dksX7_sum_3 11 rfl rfl)
theorem dX7_sum_82 : decode cX7_sum 82 = .ok (.aload_n 1, 1) := dk_43 (dk_at dksX7_sum_3 14 rfl rfl)
theorem dX7_sum_83 : decode cX7_sum 83 = .ok (.areturn, 1) := dk_176 (dk_at dksX7_sum_3 15 rfl rfl)
abbrev cX7_product : ByteArray := prog_17_method_23_code
def yX7_product : MethodName := ⟨RX7, "product", "()LRingDomino$Sum;"⟩
def dkwX7_product_3 : List UInt8 := [89, 44, 43, 42, 182, 1, 57, 183, 1, 54, 76, 167, 255, 182, 43, 176]
abbrev dktX7_product_3 : List UInt8 := dkwX7_product_3 ++ []
def dkwX7_product_2 : List UInt8 := [167, 0, 6, 178, 1, 67, 77, 44, 178, 1, 67, 166, 0, 10, 42, 19, 1, 62, 182, 0, 69, 187, 1, 52]
abbrev dktX7_product_2 : List UInt8 := dkwX7_product_2 ++ dktX7_product_3
def dkwX7_product_1 : List UInt8 := [19, 1, 62, 182, 0, 51, 153, 0, 54, 42, 19, 1, 60, 182, 0, 55, 153, 0, 9, 178, 1, 64]
abbrev dktX7_product_1 : List UInt8 := dkwX7_product_1 ++ dktX7_product_2
def dkwX7_product_0 : List UInt8 := [42, 182, 1, 57, 76, 42, 182, 0, 43, 19, 1, 60, 182, 0, 51, 154, 0, 16, 42, 182, 0, 43]
abbrev dktX7_product_0 : List UInt8 := dkwX7_product_0 ++ dktX7_product_1
theorem dksX7_product_0 : cX7_product.data.toList.drop 0 = dktX7_product_0 := by decide +kernel
theorem dksX7_product_1 : cX7_product.data.toList.drop 22 = dktX7_product_1 := dk_seg dksX7_product_0 22 rfl rfl
theorem dksX7_product_2 : cX7_product.data.toList.drop 44 = dktX7_product_2 := dk_seg dksX7_product_1 22 rfl rfl
theorem dksX7_product_3 : cX7_product.data.toList.drop 68 = dktX7_product_3 := dk_seg dksX7_product_2 24 rfl rfl
theorem dX7_product_0 : decode cX7_product 0 = .ok (.aload_n 0, 1) := dk_42 (dk_at dksX7_product_0 0 rfl rfl)
theorem dX7_product_1 : decode cX7_product 1 = .ok (.invokevirtual 313, 3) := dk_182 1 57 (dk_at dksX7_product_0 1 rfl rfl)
theorem dX7_product_4 : decode cX7_product 4 = .ok (.astore_n 1, 1) := dk_76 (dk_at dksX7_product_0 4 rfl rfl)
theorem dX7_product_5 : decode cX7_product 5 = .ok (.aload_n 0, 1) := dk_42 (dk_at dksX7_product_0 5 rfl rfl)
theorem dX7_product_6 : decode cX7_product 6 = .ok (.invokevirtual 43, 3) := dk_182 0 43 (dk_at dksX7_product_0 6 rfl rfl)
theorem dX7_product_9 : decode cX7_product 9 = .ok (.ldc_w 316, 3) := dk_19 1 60 (dk_at dksX7_product_0 9 rfl rfl)
theorem dX7_product_12 : decode cX7_product 12 = .ok (.invokevirtual 51, 3) := dk_182 0 51 (dk_at dksX7_product_0 12 rfl rfl)
theorem dX7_product_15 : decode cX7_product 15 = .ok (.ifCond .ne 16, 3) := dk_154 0 16 (dk_at dksX7_product_0 15 rfl rfl)
theorem dX7_product_18 : decode cX7_product 18 = .ok (.aload_n 0, 1) := dk_42 (dk_at dksX7_product_0 18 rfl rfl)
theorem dX7_product_19 : decode cX7_product 19 = .ok (.invokevirtual 43, 3) := dk_182 0 43 (dk_at dksX7_product_0 19 rfl rfl)
theorem dX7_product_22 : decode cX7_product 22 = .ok (.ldc_w 318, 3) := dk_19 1 62 (dk_at dksX7_product_1 0 rfl rfl)
theorem dX7_product_25 : decode cX7_product 25 = .ok (.invokevirtual 51, 3) := dk_182 0 51 (dk_at dksX7_product_1 3 rfl rfl)
theorem dX7_product_28 : decode cX7_product 28 = .ok (.ifCond .eq 54, 3) := dk_153 0 54 (dk_at dksX7_product_1 6 rfl rfl)
theorem dX7_product_31 : decode cX7_product 31 = .ok (.aload_n 0, 1) := dk_42 (dk_at dksX7_product_1 9 rfl rfl)
theorem dX7_product_32 : decode cX7_product 32 = .ok (.ldc_w 316, 3) := dk_19 1 60 (dk_at dksX7_product_1 10 rfl rfl)
theorem dX7_product_35 : decode cX7_product 35 = .ok (.invokevirtual 55, 3) := dk_182 0 55 (dk_at dksX7_product_1 13 rfl rfl)
theorem dX7_product_38 : decode cX7_product 38 = .ok (.ifCond .eq 9, 3) := dk_153 0 9 (dk_at dksX7_product_1 16 rfl rfl)
theorem dX7_product_41 : decode cX7_product 41 = .ok (.getstatic 320, 3) := dk_178 1 64 (dk_at dksX7_product_1 19 rfl rfl)
theorem dX7_product_44 : decode cX7_product 44 = .ok (.goto 6, 3) := dk_167 0 6 (dk_at dksX7_product_2 0 rfl rfl)
theorem dX7_product_47 : decode cX7_product 47 = .ok (.getstatic 323, 3) := dk_178 1 67 (dk_at dksX7_product_2 3 rfl rfl)
theorem dX7_product_50 : decode cX7_product 50 = .ok (.astore_n 2, 1) := dk_77 (dk_at dksX7_product_2 6 rfl rfl)
theorem dX7_product_51 : decode cX7_product 51 = .ok (.aload_n 2, 1) := dk_44 (dk_at dksX7_product_2 7 rfl rfl)
theorem dX7_product_52 : decode cX7_product 52 = .ok (.getstatic 323, 3) := dk_178 1 67 (dk_at dksX7_product_2 8 rfl rfl)
theorem dX7_product_55 : decode cX7_product 55 = .ok (.if_acmp .ne 10, 3) := dk_166 0 10 (dk_at dksX7_product_2 11 rfl rfl)
theorem dX7_product_58 : decode cX7_product 58 = .ok (.aload_n 0, 1) := dk_42 (dk_at dksX7_product_2 14 rfl rfl)
theorem dX7_product_59 : decode cX7_product 59 = .ok (.ldc_w 318, 3) := dk_19 1 62 (dk_at dksX7_product_2 15 rfl rfl)
theorem dX7_product_62 : decode cX7_product 62 = .ok (.invokevirtual 69, 3) := dk_182 0 69 (dk_at dksX7_product_2 18 rfl rfl)
theorem dX7_product_65 : decode cX7_product 65 = .ok (.new 308, 3) := dk_187 1 52 (dk_at dksX7_product_2 21 rfl rfl)
theorem dX7_product_68 : decode cX7_product 68 = .ok (.dup, 1) := dk_89 (dk_at dksX7_product_3 0 rfl rfl)
theorem dX7_product_69 : decode cX7_product 69 = .ok (.aload_n 2, 1) := dk_44 (dk_at dksX7_product_3 1 rfl rfl)
theorem dX7_product_70 : decode cX7_product 70 = .ok (.aload_n 1, 1) := dk_43 (dk_at dksX7_product_3 2 rfl rfl)
theorem dX7_product_71 : decode cX7_product 71 = .ok (.aload_n 0, 1) := dk_42 (dk_at dksX7_product_3 3 rfl rfl)
theorem dX7_product_72 : decode cX7_product 72 = .ok (.invokevirtual 313, 3) := dk_182 1 57 (dk_at dksX7_product_3 4 rfl rfl)
theorem dX7_product_75 : decode cX7_product 75 = .ok (.invokespecial 310, 3) := dk_183 1 54 (dk_at dksX7_product_3 7 rfl rfl)
theorem dX7_product_78 : decode cX7_product 78 = .ok (.astore_n 1, 1) := dk_76 (dk_at dksX7_product_3 10 rfl rfl)
theorem dX7_product_79 : decode cX7_product 79 = .ok (.goto (-74), 3) := dk_167 255 182 (dk_at dksX7_product_3 11 rfl rfl)
theorem dX7_product_82 : decode cX7_product 82 = .ok (.aload_n 1, 1) := dk_43 (dk_at dksX7_product_3 14 rfl rfl)
theorem dX7_product_83 : decode cX7_product 83 = .ok (.areturn, 1) := dk_176 (dk_at dksX7_product_3 15 rfl rfl)
abbrev cX7_value : ByteArray := prog_17_method_25_code
def yX7_value : MethodName := ⟨RX7, "value", "()LRingDomino$Sum;"⟩
def dkwX7_value_9 : List UInt8 := [182, 1, 3, 44, 176]
abbrev dktX7_value_9 : List UInt8 := dkwX7_value_9 ++ []
def dkwX7_value_8 : List UInt8 := [42, 18, 205, 182, 0, 69, 187, 1, 52, 89, 43, 44, 42, 182, 0, 201, 183, 1, 54, 77, 42, 19, 1, 110]
abbrev dktX7_value_8 : List UInt8 := dkwX7_value_8 ++ dktX7_value_9
def dkwX7_value_7 : List UInt8 := [178, 1, 105, 167, 0, 4, 1, 76, 42, 19, 1, 108, 182, 0, 247, 42, 182, 0, 201, 77, 43, 198, 0, 23]
abbrev dktX7_value_7 : List UInt8 := dkwX7_value_7 ++ dktX7_value_8
def dkwX7_value_6 : List UInt8 := [153, 0, 9, 178, 1, 101, 167, 0, 23, 42, 178, 1, 105, 180, 1, 104, 182, 0, 55, 153, 0, 9]
abbrev dktX7_value_6 : List UInt8 := dkwX7_value_6 ++ dktX7_value_7
def dkwX7_value_5 : List UInt8 := [76, 42, 89, 180, 0, 66, 4, 100, 181, 0, 66, 43, 176, 42, 178, 1, 101, 180, 1, 104, 182, 0, 55]
abbrev dktX7_value_5 : List UInt8 := dkwX7_value_5 ++ dktX7_value_6
def dkwX7_value_4 : List UInt8 := [182, 0, 51, 153, 0, 34, 42, 19, 1, 41, 182, 0, 247, 187, 1, 96, 89, 42, 182, 1, 57, 183, 1, 98]
abbrev dktX7_value_4 : List UInt8 := dkwX7_value_4 ++ dktX7_value_5
def dkwX7_value_3 : List UInt8 := [180, 1, 86, 182, 1, 89, 183, 1, 93, 176, 132, 3, 1, 167, 255, 212, 42, 182, 0, 43, 19, 1, 41]
abbrev dktX7_value_3 : List UInt8 := dkwX7_value_3 ++ dktX7_value_4
def dkwX7_value_2 : List UInt8 := [58, 4, 42, 25, 4, 180, 1, 83, 182, 0, 55, 153, 0, 22, 187, 1, 84, 89, 25, 4, 42, 25, 4]
abbrev dktX7_value_2 : List UInt8 := dkwX7_value_2 ++ dktX7_value_3
def dkwX7_value_1 : List UInt8 := [182, 0, 149, 183, 0, 193, 176, 178, 1, 78, 76, 43, 190, 61, 3, 62, 29, 28, 162, 0, 45, 43, 29, 50]
abbrev dktX7_value_1 : List UInt8 := dkwX7_value_1 ++ dktX7_value_2
def dkwX7_value_0 : List UInt8 := [42, 182, 0, 43, 180, 0, 62, 178, 0, 146, 166, 0, 21, 187, 0, 191, 89, 42, 178, 0, 146, 182, 0, 84]
abbrev dktX7_value_0 : List UInt8 := dkwX7_value_0 ++ dktX7_value_1
theorem dksX7_value_0 : cX7_value.data.toList.drop 0 = dktX7_value_0 := by decide +kernel
theorem dksX7_value_1 : cX7_value.data.toList.drop 24 = dktX7_value_1 := dk_seg dksX7_value_0 24 rfl rfl
theorem dksX7_value_2 : cX7_value.data.toList.drop 48 = dktX7_value_2 := dk_seg dksX7_value_1 24 rfl rfl
theorem dksX7_value_3 : cX7_value.data.toList.drop 71 = dktX7_value_3 := dk_seg dksX7_value_2 23 rfl rfl
theorem dksX7_value_4 : cX7_value.data.toList.drop 94 = dktX7_value_4 := dk_seg dksX7_value_3 23 rfl rfl
theorem dksX7_value_5 : cX7_value.data.toList.drop 118 = dktX7_value_5 := dk_seg dksX7_value_4 24 rfl rfl
theorem dksX7_value_6 : cX7_value.data.toList.drop 141 = dktX7_value_6 := dk_seg dksX7_value_5 23 rfl rfl
theorem dksX7_value_7 : cX7_value.data.toList.drop 163 = dktX7_value_7 := dk_seg dksX7_value_6 22 rfl rfl
theorem dksX7_value_8 : cX7_value.data.toList.drop 187 = dktX7_value_8 := dk_seg dksX7_value_7 24 rfl rfl
theorem dksX7_value_9 : cX7_value.data.toList.drop 211 = dktX7_value_9 := dk_seg dksX7_value_8 24 rfl rfl
theorem dX7_value_0 : decode cX7_value 0 = .ok (.aload_n 0, 1) := dk_42 (dk_at dksX7_value_0 0 rfl rfl)
theorem dX7_value_1 : decode cX7_value 1 = .ok (.invokevirtual 43, 3) := dk_182 0 43 (dk_at dksX7_value_0 1 rfl rfl)
theorem dX7_value_4 : decode cX7_value 4 = .ok (.getfield 62, 3) := dk_180 0 62 (dk_at dksX7_value_0 4 rfl rfl)
theorem dX7_value_7 : decode cX7_value 7 = .ok (.getstatic 146, 3) := dk_178 0 146 (dk_at dksX7_value_0 7 rfl rfl)
theorem dX7_value_10 : decode cX7_value 10 = .ok (.if_acmp .ne 21, 3) := dk_166 0 21 (dk_at dksX7_value_0 10 rfl rfl)
theorem dX7_value_13 : decode cX7_value 13 = .ok (.new 191, 3) := dk_187 0 191 (dk_at dksX7_value_0 13 rfl rfl)
theorem dX7_value_16 : decode cX7_value 16 = .ok (.dup, 1) := dk_89 (dk_at dksX7_value_0 16 rfl rfl)
theorem dX7_value_17 : decode cX7_value 17 = .ok (.aload_n 0, 1) := dk_42 (dk_at dksX7_value_0 17 rfl rfl)
theorem dX7_value_18 : decode cX7_value 18 = .ok (.getstatic 146, 3) := dk_178 0 146 (dk_at dksX7_value_0 18 rfl rfl)
theorem dX7_value_21 : decode cX7_value 21 = .ok (.invokevirtual 84, 3) := dk_182 0 84 (dk_at dksX7_value_0 21 rfl rfl)
theorem dX7_value_24 : decode cX7_value 24 = .ok (.invokevirtual 149, 3) := dk_182 0 149 (dk_at dksX7_value_1 0 rfl rfl)
theorem dX7_value_27 : decode cX7_value 27 = .ok (.invokespecial 193, 3) := dk_183 0 193 (dk_at dksX7_value_1 3 rfl rfl)
theorem dX7_value_30 : decode cX7_value 30 = .ok (.areturn, 1) := dk_176 (dk_at dksX7_value_1 6 rfl rfl)
theorem dX7_value_31 : decode cX7_value 31 = .ok (.getstatic 334, 3) := dk_178 1 78 (dk_at dksX7_value_1 7 rfl rfl)
theorem dX7_value_34 : decode cX7_value 34 = .ok (.astore_n 1, 1) := dk_76 (dk_at dksX7_value_1 10 rfl rfl)
theorem dX7_value_35 : decode cX7_value 35 = .ok (.aload_n 1, 1) := dk_43 (dk_at dksX7_value_1 11 rfl rfl)
theorem dX7_value_36 : decode cX7_value 36 = .ok (.arraylength, 1) := dk_190 (dk_at dksX7_value_1 12 rfl rfl)
theorem dX7_value_37 : decode cX7_value 37 = .ok (.istore_n 2, 1) := dk_61 (dk_at dksX7_value_1 13 rfl rfl)
theorem dX7_value_38 : decode cX7_value 38 = .ok (.iconst 0, 1) := dk_3 (dk_at dksX7_value_1 14 rfl rfl)
theorem dX7_value_39 : decode cX7_value 39 = .ok (.istore_n 3, 1) := dk_62 (dk_at dksX7_value_1 15 rfl rfl)
theorem dX7_value_40 : decode cX7_value 40 = .ok (.iload_n 3, 1) := dk_29 (dk_at dksX7_value_1 16 rfl rfl)
theorem dX7_value_41 : decode cX7_value 41 = .ok (.iload_n 2, 1) := dk_28 (dk_at dksX7_value_1 17 rfl rfl)
theorem dX7_value_42 : decode cX7_value 42 = .ok (.if_icmp .ge 45, 3) := dk_162 0 45 (dk_at dksX7_value_1 18 rfl rfl)
theorem dX7_value_45 : decode cX7_value 45 = .ok (.aload_n 1, 1) := dk_43 (dk_at dksX7_value_1 21 rfl rfl)
theorem dX7_value_46 : decode cX7_value 46 = .ok (.iload_n 3, 1) := dk_29 (dk_at dksX7_value_1 22 rfl rfl)
theorem dX7_value_47 : decode cX7_value 47 = .ok (.aaload, 1) := dk_50 (dk_at dksX7_value_1 23 rfl rfl)
theorem dX7_value_48 : decode cX7_value 48 = .ok (.astore 4, 2) := dk_58 4 (dk_at dksX7_value_2 0 rfl rfl)
theorem dX7_value_50 : decode cX7_value 50 = .ok (.aload_n 0, 1) := dk_42 (dk_at dksX7_value_2 2 rfl rfl)
theorem dX7_value_51 : decode cX7_value 51 = .ok (.aload 4, 2) := dk_25 4 (dk_at dksX7_value_2 3 rfl rfl)
theorem dX7_value_53 : decode cX7_value 53 = .ok (.getfield 339, 3) := dk_180 1 83 (dk_at dksX7_value_2 5 rfl rfl)
theorem dX7_value_56 : decode cX7_value 56 = .ok (.invokevirtual 55, 3) := dk_182 0 55 (dk_at dksX7_value_2 8 rfl rfl)
theorem dX7_value_59 : decode cX7_value 59 = .ok (.ifCond .eq 22, 3) := dk_153 0 22 (dk_at dksX7_value_2 11 rfl rfl)
theorem dX7_value_62 : decode cX7_value 62 = .ok (.new 340, 3) := dk_187 1 84 (dk_at dksX7_value_2 14 rfl rfl)
theorem dX7_value_65 : decode cX7_value 65 = .ok (.dup, 1) := dk_89 (dk_at dksX7_value_2 17 rfl rfl)
theorem dX7_value_66 : decode cX7_value 66 = .ok (.aload 4, 2) := dk_25 4 (dk_at dksX7_value_2 18 rfl rfl)
theorem dX7_value_68 : decode cX7_value 68 = .ok (.aload_n 0, 1) := dk_42 (dk_at dksX7_value_2 20 rfl rfl)
theorem dX7_value_69 : decode cX7_value 69 = .ok (.aload 4, 2) := dk_25 4 (dk_at dksX7_value_2 21 rfl rfl)
theorem dX7_value_71 : decode cX7_value 71 = .ok (.getfield 342, 3) := dk_180 1 86 (dk_at dksX7_value_3 0 rfl rfl)
theorem dX7_value_74 : decode cX7_value 74 = .ok (.invokevirtual 345, 3) := dk_182 1 89 (dk_at dksX7_value_3 3 rfl rfl)
theorem dX7_value_77 : decode cX7_value 77 = .ok (.invokespecial 349, 3) := dk_183 1 93 (dk_at dksX7_value_3 6 rfl rfl)
theorem dX7_value_80 : decode cX7_value 80 = .ok (.areturn, 1) := dk_176 (dk_at dksX7_value_3 9 rfl rfl)
theorem dX7_value_81 : decode cX7_value 81 = .ok (.iinc 3 1, 3) := dk_132 3 1 (dk_at dksX7_value_3 10 rfl rfl)
theorem dX7_value_84 : decode cX7_value 84 = .ok (.goto (-44), 3) := dk_167 255 212 (dk_at dksX7_value_3 13 rfl rfl)
theorem dX7_value_87 : decode cX7_value 87 = .ok (.aload_n 0, 1) := dk_42 (dk_at dksX7_value_3 16 rfl rfl)
theorem dX7_value_88 : decode cX7_value 88 = .ok (.invokevirtual 43, 3) := dk_182 0 43 (dk_at dksX7_value_3 17 rfl rfl)
theorem dX7_value_91 : decode cX7_value 91 = .ok (.ldc_w 297, 3) := dk_19 1 41 (dk_at dksX7_value_3 20 rfl rfl)
theorem dX7_value_94 : decode cX7_value 94 = .ok (.invokevirtual 51, 3) := dk_182 0 51 (dk_at dksX7_value_4 0 rfl rfl)
theorem dX7_value_97 : decode cX7_value 97 = .ok (.ifCond .eq 34, 3) := dk_153 0 34 (dk_at dksX7_value_4 3 rfl rfl)
theorem dX7_value_100 : decode cX7_value 100 = .ok (.aload_n 0, 1) := dk_42 (dk_at dksX7_value_4 6 rfl rfl)
theorem dX7_value_101 : decode cX7_value 101 = .ok (.ldc_w 297, 3) := dk_19 1 41 (dk_at dksX7_value_4 7 rfl rfl)
theorem dX7_value_104 : decode cX7_value 104 = .ok (.invokevirtual 247, 3) := dk_182 0 247 (dk_at dksX7_value_4 10 rfl rfl)
theorem dX7_value_107 : decode cX7_value 107 = .ok (.new 352, 3) := dk_187 1 96 (dk_at dksX7_value_4 13 rfl rfl)
theorem dX7_value_110 : decode cX7_value 110 = .ok (.dup, 1) := dk_89 (dk_at dksX7_value_4 16 rfl rfl)
theorem dX7_value_111 : decode cX7_value 111 = .ok (.aload_n 0, 1) := dk_42 (dk_at dksX7_value_4 17 rfl rfl)
theorem dX7_value_112 : decode cX7_value 112 = .ok (.invokevirtual 313, 3) := dk_182 1 57 (dk_at dksX7_value_4 18 rfl rfl)
theorem dX7_value_115 : decode cX7_value 115 = .ok (.invokespecial 354, 3) := dk_183 1 98 (dk_at dksX7_value_4 21 rfl rfl)
theorem dX7_value_118 : decode cX7_value 118 = .ok (.astore_n 1, 1) := dk_76 (dk_at dksX7_value_5 0 rfl rfl)
theorem dX7_value_119 : decode cX7_value 119 = .ok (.aload_n 0, 1) := dk_42 (dk_at dksX7_value_5 1 rfl rfl)
theorem dX7_value_120 : decode cX7_value 120 = .ok (.dup, 1) := dk_89 (dk_at dksX7_value_5 2 rfl rfl)
theorem dX7_value_121 : decode cX7_value 121 = .ok (.getfield 66, 3) := dk_180 0 66 (dk_at dksX7_value_5 3 rfl rfl)
theorem dX7_value_124 : decode cX7_value 124 = .ok (.iconst 1, 1) := dk_4 (dk_at dksX7_value_5 6 rfl rfl)
theorem dX7_value_125 : decode cX7_value 125 = .ok (.isub, 1) := dk_100 (dk_at dksX7_value_5 7 rfl rfl)
theorem dX7_value_126 : decode cX7_value 126 = .ok (.putfield 66, 3) := dk_181 0 66 (dk_at dksX7_value_5 8 rfl rfl)
theorem dX7_value_129 : decode cX7_value 129 = .ok (.aload_n 1, 1) := dk_43 (dk_at dksX7_value_5 11 rfl rfl)
theorem dX7_value_130 : decode cX7_value 130 = .ok (.areturn, 1) := dk_176 (dk_at dksX7_value_5 12 rfl rfl)
theorem dX7_value_131 : decode cX7_value 131 = .ok (.aload_n 0, 1) := dk_42 (dk_at dksX7_value_5 13 rfl rfl)
theorem dX7_value_132 : decode cX7_value 132 = .ok (.getstatic 357, 3) := dk_178 1 101 (dk_at dksX7_value_5 14 rfl rfl)
theorem dX7_value_135 : decode cX7_value 135 = .ok (.getfield 360, 3) := dk_180 1 104 (dk_at dksX7_value_5 17 rfl rfl)
theorem dX7_value_138 : decode cX7_value 138 = .ok (.invokevirtual 55, 3) := dk_182 0 55 (dk_at dksX7_value_5 20 rfl rfl)
theorem dX7_value_141 : decode cX7_value 141 = .ok (.ifCond .eq 9, 3) := dk_153 0 9 (dk_at dksX7_value_6 0 rfl rfl)
theorem dX7_value_144 : decode cX7_value 144 = .ok (.getstatic 357, 3) := dk_178 1 101 (dk_at dksX7_value_6 3 rfl rfl)
theorem dX7_value_147 : decode cX7_value 147 = .ok (.goto 23, 3) := dk_167 0 23 (dk_at dksX7_value_6 6 rfl rfl)
theorem dX7_value_150 : decode cX7_value 150 = .ok (.aload_n 0, 1) := dk_42 (dk_at dksX7_value_6 9 rfl rfl)
theorem dX7_value_151 : decode cX7_value 151 = .ok (.getstatic 361, 3) := dk_178 1 105 (dk_at dksX7_value_6 10 rfl rfl)
theorem dX7_value_154 : decode cX7_value 154 = .ok (.getfield 360, 3) := dk_180 1 104 (dk_at dksX7_value_6 13 rfl rfl)
theorem dX7_value_157 : decode cX7_value 157 = .ok (.invokevirtual 55, 3) := dk_182 0 55 (dk_at dksX7_value_6 16 rfl rfl)
theorem dX7_value_160 : decode cX7_value 160 = .ok (.ifCond .eq 9, 3) := dk_153 0 9 (dk_at dksX7_value_6 19 rfl rfl)
theorem dX7_value_163 : decode cX7_value 163 = .ok (.getstatic 361, 3) := dk_178 1 105 (dk_at dksX7_value_7 0 rfl rfl)
theorem dX7_value_166 : decode cX7_value 166 = .ok (.goto 4, 3) := dk_167 0 4 (dk_at dksX7_value_7 3 rfl rfl)
theorem dX7_value_169 : decode cX7_value 169 = .ok (.aconst_null, 1) := dk_1 (dk_at dksX7_value_7 6 rfl rfl)
theorem dX7_value_170 : decode cX7_value 170 = .ok (.astore_n 1, 1) := dk_76 (dk_at dksX7_value_7 7 rfl rfl)
theorem dX7_value_171 : decode cX7_value 171 = .ok (.aload_n 0, 1) := dk_42 (dk_at dksX7_value_7 8 rfl rfl)
theorem dX7_value_172 : decode cX7_value 172 = .ok (.ldc_w 364, 3) := dk_19 1 108 (dk_at dksX7_value_7 9 rfl rfl)
theorem dX7_value_175 : decode cX7_value 175 = .ok (.invokevirtual 247, 3) := dk_182 0 247 (dk_at dksX7_value_7 12 rfl rfl)
theorem dX7_value_178 : decode cX7_value 178 = .ok (.aload_n 0, 1) := dk_42 (dk_at dksX7_value_7 15 rfl rfl)
theorem dX7_value_179 : decode cX7_value 179 = .ok (.invokevirtual 201, 3) := dk_182 0 201 (dk_at dksX7_value_7 16 rfl rfl)
theorem dX7_value_182 : decode cX7_value 182 = .ok (.astore_n 2, 1) := dk_77 (dk_at dksX7_value_7 19 rfl rfl)
theorem dX7_value_183 : decode cX7_value 183 = .ok (.aload_n 1, 1) := dk_43 (dk_at dksX7_value_7 20 rfl rfl)
theorem dX7_value_184 : decode cX7_value 184 = .ok (.ifnull 23, 3) := dk_198 0 23 (dk_at dksX7_value_7 21 rfl rfl)
theorem dX7_value_187 : decode cX7_value 187 = .ok (.aload_n 0, 1) := dk_42 (dk_at dksX7_value_8 0 rfl rfl)
theorem dX7_value_188 : decode cX7_value 188 = .ok (.ldc 205, 2) := dk_18 205 (dk_at dksX7_value_8 1 rfl rfl)
theorem dX7_value_190 : decode cX7_value 190 = .ok (.invokevirtual 69, 3) := dk_182 0 69 (dk_at dksX7_value_8 3 rfl rfl)
theorem dX7_value_193 : decode cX7_value 193 = .ok (.new 308, 3) := dk_187 1 52 (dk_at dksX7_value_8 6 rfl rfl)
theorem dX7_value_196 : decode cX7_value 196 = .ok (.dup, 1) := dk_89 (dk_at dksX7_value_8 9 rfl rfl)
theorem dX7_value_197 : decode cX7_value 197 = .ok (.aload_n 1, 1) := dk_43 (dk_at dksX7_value_8 10 rfl rfl)
theorem dX7_value_198 : decode cX7_value 198 = .ok (.aload_n 2, 1) := dk_44 (dk_at dksX7_value_8 11 rfl rfl)
theorem dX7_value_199 : decode cX7_value 199 = .ok (.aload_n 0, 1) := dk_42 (dk_at dksX7_value_8 12 rfl rfl)
theorem dX7_value_200 : decode cX7_value 200 = .ok (.invokevirtual 201, 3) := dk_182 0 201 (dk_at dksX7_value_8 13 rfl rfl)
theorem dX7_value_203 : decode cX7_value 203 = .ok (.invokespecial 310, 3) := dk_183 1 54 (dk_at dksX7_value_8 16 rfl rfl)
theorem dX7_value_206 : decode cX7_value 206 = .ok (.astore_n 2, 1) := dk_77 (dk_at dksX7_value_8 19 rfl rfl)
theorem dX7_value_207 : decode cX7_value 207 = .ok (.aload_n 0, 1) := dk_42 (dk_at dksX7_value_8 20 rfl rfl)
theorem dX7_value_208 : decode cX7_value 208 = .ok (.ldc_w 366, 3) := dk_19 1 110 (dk_at dksX7_value_8 21 rfl rfl)
theorem dX7_value_211 : decode cX7_value 211 = .ok (.invokevirtual 259, 3) := dk_182 1 3 (dk_at dksX7_value_9 0 rfl rfl)
theorem dX7_value_214 : decode cX7_value 214 = .ok (.aload_n 2, 1) := dk_44 (dk_at dksX7_value_9 3 rfl rfl)
theorem dX7_value_215 : decode cX7_value 215 = .ok (.areturn, 1) := dk_176 (dk_at dksX7_value_9 4 rfl rfl)
abbrev cX7_which : ByteArray := prog_17_method_24_code
def yX7_which : MethodName := ⟨RX7, "which", "(LRingDomino$Kind;)I"⟩
def dkwX7_which_1 : List UInt8 := [172]
abbrev dktX7_which_1 : List UInt8 := dkwX7_which_1 ++ []
def dkwX7_which_0 : List UInt8 := [43, 178, 1, 70, 166, 0, 5, 2, 172, 42, 19, 1, 76, 182, 0, 69, 42, 42, 180, 0, 21, 182, 0, 187]
abbrev dktX7_which_0 : List UInt8 := dkwX7_which_0 ++ dktX7_which_1
theorem dksX7_which_0 : cX7_which.data.toList.drop 0 = dktX7_which_0 := by decide +kernel
theorem dksX7_which_1 : cX7_which.data.toList.drop 24 = dktX7_which_1 := dk_seg dksX7_which_0 24 rfl rfl
theorem dX7_which_0 : decode cX7_which 0 = .ok (.aload_n 1, 1) := dk_43 (dk_at dksX7_which_0 0 rfl rfl)
theorem dX7_which_1 : decode cX7_which 1 = .ok (.getstatic 326, 3) := dk_178 1 70 (dk_at dksX7_which_0 1 rfl rfl)
theorem dX7_which_4 : decode cX7_which 4 = .ok (.if_acmp .ne 5, 3) := dk_166 0 5 (dk_at dksX7_which_0 4 rfl rfl)
theorem dX7_which_7 : decode cX7_which 7 = .ok (.iconst (-1), 1) := dk_2 (dk_at dksX7_which_0 7 rfl rfl)
theorem dX7_which_8 : decode cX7_which 8 = .ok (.ireturn, 1) := dk_172 (dk_at dksX7_which_0 8 rfl rfl)
theorem dX7_which_9 : decode cX7_which 9 = .ok (.aload_n 0, 1) := dk_42 (dk_at dksX7_which_0 9 rfl rfl)
theorem dX7_which_10 : decode cX7_which 10 = .ok (.ldc_w 332, 3) := dk_19 1 76 (dk_at dksX7_which_0 10 rfl rfl)
theorem dX7_which_13 : decode cX7_which 13 = .ok (.invokevirtual 69, 3) := dk_182 0 69 (dk_at dksX7_which_0 13 rfl rfl)
theorem dX7_which_16 : decode cX7_which 16 = .ok (.aload_n 0, 1) := dk_42 (dk_at dksX7_which_0 16 rfl rfl)
theorem dX7_which_17 : decode cX7_which 17 = .ok (.aload_n 0, 1) := dk_42 (dk_at dksX7_which_0 17 rfl rfl)
theorem dX7_which_18 : decode cX7_which 18 = .ok (.getfield 21, 3) := dk_180 0 21 (dk_at dksX7_which_0 18 rfl rfl)
theorem dX7_which_21 : decode cX7_which 21 = .ok (.invokevirtual 187, 3) := dk_182 0 187 (dk_at dksX7_which_0 21 rfl rfl)
theorem dX7_which_24 : decode cX7_which 24 = .ok (.ireturn, 1) := dk_172 (dk_at dksX7_which_1 0 rfl rfl)
abbrev cX7_deeper : ByteArray := prog_17_method_7_code
def yX7_deeper : MethodName := ⟨RX7, "deeper", "(Ljava/lang/String;)V"⟩
def dkwX7_deeper_1 : List UInt8 := [191, 42, 89, 180, 0, 66, 4, 96, 181, 0, 66, 42, 89, 180, 0, 29, 4, 96, 181, 0, 29, 177]
abbrev dktX7_deeper_1 : List UInt8 := dkwX7_deeper_1 ++ []
def dkwX7_deeper_0 : List UInt8 := [42, 182, 0, 43, 43, 182, 0, 51, 153, 0, 12, 42, 180, 0, 66, 16, 8, 160, 0, 8, 42, 182, 0, 58]
abbrev dktX7_deeper_0 : List UInt8 := dkwX7_deeper_0 ++ dktX7_deeper_1
theorem dksX7_deeper_0 : cX7_deeper.data.toList.drop 0 = dktX7_deeper_0 := by decide +kernel
theorem dksX7_deeper_1 : cX7_deeper.data.toList.drop 24 = dktX7_deeper_1 := dk_seg dksX7_deeper_0 24 rfl rfl
theorem dX7_deeper_0 : decode cX7_deeper 0 = .ok (.aload_n 0, 1) := dk_42 (dk_at dksX7_deeper_0 0 rfl rfl)
theorem dX7_deeper_1 : decode cX7_deeper 1 = .ok (.invokevirtual 43, 3) := dk_182 0 43 (dk_at dksX7_deeper_0 1 rfl rfl)
theorem dX7_deeper_4 : decode cX7_deeper 4 = .ok (.aload_n 1, 1) := dk_43 (dk_at dksX7_deeper_0 4 rfl rfl)
theorem dX7_deeper_5 : decode cX7_deeper 5 = .ok (.invokevirtual 51, 3) := dk_182 0 51 (dk_at dksX7_deeper_0 5 rfl rfl)
theorem dX7_deeper_8 : decode cX7_deeper 8 = .ok (.ifCond .eq 12, 3) := dk_153 0 12 (dk_at dksX7_deeper_0 8 rfl rfl)
theorem dX7_deeper_11 : decode cX7_deeper 11 = .ok (.aload_n 0, 1) := dk_42 (dk_at dksX7_deeper_0 11 rfl rfl)
theorem dX7_deeper_12 : decode cX7_deeper 12 = .ok (.getfield 66, 3) := dk_180 0 66 (dk_at dksX7_deeper_0 12 rfl rfl)
theorem dX7_deeper_15 : decode cX7_deeper 15 = .ok (.bipush 8, 2) := dk_16 8 (dk_at dksX7_deeper_0 15 rfl rfl)
theorem dX7_deeper_17 : decode cX7_deeper 17 = .ok (.if_icmp .ne 8, 3) := dk_160 0 8 (dk_at dksX7_deeper_0 17 rfl rfl)
theorem dX7_deeper_20 : decode cX7_deeper 20 = .ok (.aload_n 0, 1) := dk_42 (dk_at dksX7_deeper_0 20 rfl rfl)
theorem dX7_deeper_21 : decode cX7_deeper 21 = .ok (.invokevirtual 58, 3) := dk_182 0 58 (dk_at dksX7_deeper_0 21 rfl rfl)
theorem dX7_deeper_24 : decode cX7_deeper 24 = .ok (.athrow, 1) := dk_191 (dk_at dksX7_deeper_1 0 rfl rfl)
theorem dX7_deeper_25 : decode cX7_deeper 25 = .ok (.aload_n 0, 1) := dk_42 (dk_at dksX7_deeper_1 1 rfl rfl)
theorem dX7_deeper_26 : decode cX7_deeper 26 = .ok (.dup, 1) := dk_89 (dk_at dksX7_deeper_1 2 rfl rfl)
theorem dX7_deeper_27 : decode cX7_deeper 27 = .ok (.getfield 66, 3) := dk_180 0 66 (dk_at dksX7_deeper_1 3 rfl rfl)
theorem dX7_deeper_30 : decode cX7_deeper 30 = .ok (.iconst 1, 1) := dk_4 (dk_at dksX7_deeper_1 6 rfl rfl)
theorem dX7_deeper_31 : decode cX7_deeper 31 = .ok (.iadd, 1) := dk_96 (dk_at dksX7_deeper_1 7 rfl rfl)
theorem dX7_deeper_32 : decode cX7_deeper 32 = .ok (.putfield 66, 3) := dk_181 0 66 (dk_at dksX7_deeper_1 8 rfl rfl)
theorem dX7_deeper_35 : decode cX7_deeper 35 = .ok (.aload_n 0, 1) := dk_42 (dk_at dksX7_deeper_1 11 rfl rfl)
theorem dX7_deeper_36 : decode cX7_deeper 36 = .ok (.dup, 1) := dk_89 (dk_at dksX7_deeper_1 12 rfl rfl)
theorem dX7_deeper_37 : decode cX7_deeper 37 = .ok (.getfield 29, 3) := dk_180 0 29 (dk_at dksX7_deeper_1 13 rfl rfl)
theorem dX7_deeper_40 : decode cX7_deeper 40 = .ok (.iconst 1, 1) := dk_4 (dk_at dksX7_deeper_1 16 rfl rfl)
theorem dX7_deeper_41 : decode cX7_deeper 41 = .ok (.iadd, 1) := dk_96 (dk_at dksX7_deeper_1 17 rfl rfl)
theorem dX7_deeper_42 : decode cX7_deeper 42 = .ok (.putfield 29, 3) := dk_181 0 29 (dk_at dksX7_deeper_1 18 rfl rfl)
theorem dX7_deeper_45 : decode cX7_deeper 45 = .ok (.return_, 1) := dk_177 (dk_at dksX7_deeper_1 21 rfl rfl)
abbrev cX7_close : ByteArray := prog_17_method_8_code
def yX7_close : MethodName := ⟨RX7, "close", "(Ljava/lang/String;)V"⟩
def dkwX7_close_0 : List UInt8 := [42, 43, 182, 0, 69, 42, 89, 180, 0, 66, 4, 100, 181, 0, 66, 177]
abbrev dktX7_close_0 : List UInt8 := dkwX7_close_0 ++ []
theorem dksX7_close_0 : cX7_close.data.toList.drop 0 = dktX7_close_0 := by decide +kernel
theorem dX7_close_0 : decode cX7_close 0 = .ok (.aload_n 0, 1) := dk_42 (dk_at dksX7_close_0 0 rfl rfl)
theorem dX7_close_1 : decode cX7_close 1 = .ok (.aload_n 1, 1) := dk_43 (dk_at dksX7_close_0 1 rfl rfl)
theorem dX7_close_2 : decode cX7_close 2 = .ok (.invokevirtual 69, 3) := dk_182 0 69 (dk_at dksX7_close_0 2 rfl rfl)
theorem dX7_close_5 : decode cX7_close 5 = .ok (.aload_n 0, 1) := dk_42 (dk_at dksX7_close_0 5 rfl rfl)
theorem dX7_close_6 : decode cX7_close 6 = .ok (.dup, 1) := dk_89 (dk_at dksX7_close_0 6 rfl rfl)
theorem dX7_close_7 : decode cX7_close 7 = .ok (.getfield 66, 3) := dk_180 0 66 (dk_at dksX7_close_0 7 rfl rfl)
theorem dX7_close_10 : decode cX7_close 10 = .ok (.iconst 1, 1) := dk_4 (dk_at dksX7_close_0 10 rfl rfl)
theorem dX7_close_11 : decode cX7_close 11 = .ok (.isub, 1) := dk_100 (dk_at dksX7_close_0 11 rfl rfl)
theorem dX7_close_12 : decode cX7_close 12 = .ok (.putfield 66, 3) := dk_181 0 66 (dk_at dksX7_close_0 12 rfl rfl)
theorem dX7_close_15 : decode cX7_close 15 = .ok (.return_, 1) := dk_177 (dk_at dksX7_close_0 15 rfl rfl)
abbrev cX7_test : ByteArray := prog_17_method_19_code
def yX7_test : MethodName := ⟨RX7, "test", "()LRingDomino$Test;"⟩
def dkwX7_test_1 : List UInt8 := [182, 0, 55, 154, 255, 238, 43, 176]
abbrev dktX7_test_1 : List UInt8 := dkwX7_test_1 ++ []
def dkwX7_test_0 : List UInt8 := [187, 0, 227, 89, 3, 183, 0, 229, 76, 43, 180, 0, 232, 42, 182, 0, 235, 182, 0, 225, 87, 42, 18, 238]
abbrev dktX7_test_0 : List UInt8 := dkwX7_test_0 ++ dktX7_test_1
theorem dksX7_test_0 : cX7_test.data.toList.drop 0 = dktX7_test_0 := by decide +kernel
theorem dksX7_test_1 : cX7_test.data.toList.drop 24 = dktX7_test_1 := dk_seg dksX7_test_0 24 rfl rfl
theorem dX7_test_0 : decode cX7_test 0 = .ok (.new 227, 3) := dk_187 0 227 (dk_at dksX7_test_0 0 rfl rfl)
theorem dX7_test_3 : decode cX7_test 3 = .ok (.dup, 1) := dk_89 (dk_at dksX7_test_0 3 rfl rfl)
theorem dX7_test_4 : decode cX7_test 4 = .ok (.iconst 0, 1) := dk_3 (dk_at dksX7_test_0 4 rfl rfl)
theorem dX7_test_5 : decode cX7_test 5 = .ok (.invokespecial 229, 3) := dk_183 0 229 (dk_at dksX7_test_0 5 rfl rfl)
theorem dX7_test_8 : decode cX7_test 8 = .ok (.astore_n 1, 1) := dk_76 (dk_at dksX7_test_0 8 rfl rfl)
theorem dX7_test_9 : decode cX7_test 9 = .ok (.aload_n 1, 1) := dk_43 (dk_at dksX7_test_0 9 rfl rfl)
theorem dX7_test_10 : decode cX7_test 10 = .ok (.getfield 232, 3) := dk_180 0 232 (dk_at dksX7_test_0 10 rfl rfl)
theorem dX7_test_13 : decode cX7_test 13 = .ok (.aload_n 0, 1) := dk_42 (dk_at dksX7_test_0 13 rfl rfl)
theorem dX7_test_14 : decode cX7_test 14 = .ok (.invokevirtual 235, 3) := dk_182 0 235 (dk_at dksX7_test_0 14 rfl rfl)
theorem dX7_test_17 : decode cX7_test 17 = .ok (.invokevirtual 225, 3) := dk_182 0 225 (dk_at dksX7_test_0 17 rfl rfl)
theorem dX7_test_20 : decode cX7_test 20 = .ok (.pop, 1) := dk_87 (dk_at dksX7_test_0 20 rfl rfl)
theorem dX7_test_21 : decode cX7_test 21 = .ok (.aload_n 0, 1) := dk_42 (dk_at dksX7_test_0 21 rfl rfl)
theorem dX7_test_22 : decode cX7_test 22 = .ok (.ldc 238, 2) := dk_18 238 (dk_at dksX7_test_0 22 rfl rfl)
theorem dX7_test_24 : decode cX7_test 24 = .ok (.invokevirtual 55, 3) := dk_182 0 55 (dk_at dksX7_test_1 0 rfl rfl)
theorem dX7_test_27 : decode cX7_test 27 = .ok (.ifCond .ne (-18), 3) := dk_154 255 238 (dk_at dksX7_test_1 3 rfl rfl)
theorem dX7_test_30 : decode cX7_test 30 = .ok (.aload_n 1, 1) := dk_43 (dk_at dksX7_test_1 6 rfl rfl)
theorem dX7_test_31 : decode cX7_test 31 = .ok (.areturn, 1) := dk_176 (dk_at dksX7_test_1 7 rfl rfl)
abbrev cX7_both : ByteArray := prog_17_method_20_code
def yX7_both : MethodName := ⟨RX7, "both", "()LRingDomino$Test;"⟩
def dkwX7_both_1 : List UInt8 := [182, 0, 55, 154, 255, 238, 43, 176]
abbrev dktX7_both_1 : List UInt8 := dkwX7_both_1 ++ []
def dkwX7_both_0 : List UInt8 := [187, 0, 227, 89, 4, 183, 0, 229, 76, 43, 180, 0, 232, 42, 182, 0, 240, 182, 0, 225, 87, 42, 18, 243]
abbrev dktX7_both_0 : List UInt8 := dkwX7_both_0 ++ dktX7_both_1
theorem dksX7_both_0 : cX7_both.data.toList.drop 0 = dktX7_both_0 := by decide +kernel
theorem dksX7_both_1 : cX7_both.data.toList.drop 24 = dktX7_both_1 := dk_seg dksX7_both_0 24 rfl rfl
theorem dX7_both_0 : decode cX7_both 0 = .ok (.new 227, 3) := dk_187 0 227 (dk_at dksX7_both_0 0 rfl rfl)
theorem dX7_both_3 : decode cX7_both 3 = .ok (.dup, 1) := dk_89 (dk_at dksX7_both_0 3 rfl rfl)
theorem dX7_both_4 : decode cX7_both 4 = .ok (.iconst 1, 1) := dk_4 (dk_at dksX7_both_0 4 rfl rfl)
theorem dX7_both_5 : decode cX7_both 5 = .ok (.invokespecial 229, 3) := dk_183 0 229 (dk_at dksX7_both_0 5 rfl rfl)
theorem dX7_both_8 : decode cX7_both 8 = .ok (.astore_n 1, 1) := dk_76 (dk_at dksX7_both_0 8 rfl rfl)
theorem dX7_both_9 : decode cX7_both 9 = .ok (.aload_n 1, 1) := dk_43 (dk_at dksX7_both_0 9 rfl rfl)
theorem dX7_both_10 : decode cX7_both 10 = .ok (.getfield 232, 3) := dk_180 0 232 (dk_at dksX7_both_0 10 rfl rfl)
theorem dX7_both_13 : decode cX7_both 13 = .ok (.aload_n 0, 1) := dk_42 (dk_at dksX7_both_0 13 rfl rfl)
theorem dX7_both_14 : decode cX7_both 14 = .ok (.invokevirtual 240, 3) := dk_182 0 240 (dk_at dksX7_both_0 14 rfl rfl)
theorem dX7_both_17 : decode cX7_both 17 = .ok (.invokevirtual 225, 3) := dk_182 0 225 (dk_at dksX7_both_0 17 rfl rfl)
theorem dX7_both_20 : decode cX7_both 20 = .ok (.pop, 1) := dk_87 (dk_at dksX7_both_0 20 rfl rfl)
theorem dX7_both_21 : decode cX7_both 21 = .ok (.aload_n 0, 1) := dk_42 (dk_at dksX7_both_0 21 rfl rfl)
theorem dX7_both_22 : decode cX7_both 22 = .ok (.ldc 243, 2) := dk_18 243 (dk_at dksX7_both_0 22 rfl rfl)
theorem dX7_both_24 : decode cX7_both 24 = .ok (.invokevirtual 55, 3) := dk_182 0 55 (dk_at dksX7_both_1 0 rfl rfl)
theorem dX7_both_27 : decode cX7_both 27 = .ok (.ifCond .ne (-18), 3) := dk_154 255 238 (dk_at dksX7_both_1 3 rfl rfl)
theorem dX7_both_30 : decode cX7_both 30 = .ok (.aload_n 1, 1) := dk_43 (dk_at dksX7_both_1 6 rfl rfl)
theorem dX7_both_31 : decode cX7_both 31 = .ok (.areturn, 1) := dk_176 (dk_at dksX7_both_1 7 rfl rfl)
abbrev cX7_single : ByteArray := prog_17_method_21_code
def yX7_single : MethodName := ⟨RX7, "single", "()LRingDomino$Test;"⟩
def dkwX7_single_8 : List UInt8 := [182, 0, 201, 183, 1, 33, 176]
abbrev dktX7_single_8 : List UInt8 := dkwX7_single_8 ++ []
def dkwX7_single_7 : List UInt8 := [182, 0, 58, 191, 42, 89, 180, 0, 29, 4, 96, 181, 0, 29, 187, 1, 31, 89, 44, 180, 0, 87, 43, 42]
abbrev dktX7_single_7 : List UInt8 := dkwX7_single_7 ++ dktX7_single_8
def dkwX7_single_6 : List UInt8 := [178, 1, 16, 166, 0, 20, 19, 1, 19, 44, 180, 0, 87, 3, 182, 1, 21, 182, 1, 27, 156, 0, 8, 42]
abbrev dktX7_single_6 : List UInt8 := dkwX7_single_6 ++ dktX7_single_7
def dkwX7_single_5 : List UInt8 := [180, 0, 21, 182, 0, 187, 183, 1, 15, 176, 42, 182, 0, 201, 76, 42, 182, 0, 43, 77, 44, 180, 0, 62]
abbrev dktX7_single_5 : List UInt8 := dkwX7_single_5 ++ dktX7_single_6
def dkwX7_single_4 : List UInt8 := [182, 0, 187, 183, 1, 10, 176, 42, 19, 1, 11, 182, 0, 55, 153, 0, 19, 187, 1, 13, 89, 42, 42]
abbrev dktX7_single_4 : List UInt8 := dkwX7_single_4 ++ dktX7_single_5
def dkwX7_single_3 : List UInt8 := [182, 1, 3, 43, 176, 42, 19, 1, 6, 182, 0, 55, 153, 0, 19, 187, 1, 8, 89, 42, 42, 180, 0, 21]
abbrev dktX7_single_3 : List UInt8 := dkwX7_single_3 ++ dktX7_single_4
def dkwX7_single_2 : List UInt8 := [18, 255, 182, 0, 51, 153, 0, 23, 42, 18, 255, 182, 0, 247, 42, 182, 0, 213, 76, 42, 19, 1, 1]
abbrev dktX7_single_2 : List UInt8 := dkwX7_single_2 ++ dktX7_single_3
def dkwX7_single_1 : List UInt8 := [182, 0, 240, 183, 0, 252, 76, 42, 89, 180, 0, 66, 4, 100, 181, 0, 66, 43, 176, 42, 182, 0, 43]
abbrev dktX7_single_1 : List UInt8 := dkwX7_single_1 ++ dktX7_single_2
def dkwX7_single_0 : List UInt8 := [42, 182, 0, 43, 18, 245, 182, 0, 51, 153, 0, 33, 42, 18, 245, 182, 0, 247, 187, 0, 250, 89, 42]
abbrev dktX7_single_0 : List UInt8 := dkwX7_single_0 ++ dktX7_single_1
theorem dksX7_single_0 : cX7_single.data.toList.drop 0 = dktX7_single_0 := by decide +kernel
theorem dksX7_single_1 : cX7_single.data.toList.drop 23 = dktX7_single_1 := dk_seg dksX7_single_0 23 rfl rfl
theorem dksX7_single_2 : cX7_single.data.toList.drop 46 = dktX7_single_2 := dk_seg dksX7_single_1 23 rfl rfl
theorem dksX7_single_3 : cX7_single.data.toList.drop 69 = dktX7_single_3 := dk_seg dksX7_single_2 23 rfl rfl
theorem dksX7_single_4 : cX7_single.data.toList.drop 93 = dktX7_single_4 := dk_seg dksX7_single_3 24 rfl rfl
theorem dksX7_single_5 : cX7_single.data.toList.drop 116 = dktX7_single_5 := dk_seg dksX7_single_4 23 rfl rfl
theorem dksX7_single_6 : cX7_single.data.toList.drop 140 = dktX7_single_6 := dk_seg dksX7_single_5 24 rfl rfl
theorem dksX7_single_7 : cX7_single.data.toList.drop 164 = dktX7_single_7 := dk_seg dksX7_single_6 24 rfl rfl
theorem dksX7_single_8 : cX7_single.data.toList.drop 188 = dktX7_single_8 := dk_seg dksX7_single_7 24 rfl rfl
theorem dX7_single_0 : decode cX7_single 0 = .ok (.aload_n 0, 1) := dk_42 (dk_at dksX7_single_0 0 rfl rfl)
theorem dX7_single_1 : decode cX7_single 1 = .ok (.invokevirtual 43, 3) := dk_182 0 43 (dk_at dksX7_single_0 1 rfl rfl)
theorem dX7_single_4 : decode cX7_single 4 = .ok (.ldc 245, 2) := dk_18 245 (dk_at dksX7_single_0 4 rfl rfl)
theorem dX7_single_6 : decode cX7_single 6 = .ok (.invokevirtual 51, 3) := dk_182 0 51 (dk_at dksX7_single_0 6 rfl rfl)
theorem dX7_single_9 : decode cX7_single 9 = .ok (.ifCond .eq 33, 3) := dk_153 0 33 (dk_at dksX7_single_0 9 rfl rfl)
theorem dX7_single_12 : decode cX7_single 12 = .ok (.aload_n 0, 1) := dk_42 (dk_at dksX7_single_0 12 rfl rfl)
theorem dX7_single_13 : decode cX7_single 13 = .ok (.ldc 245, 2) := dk_18 245 (dk_at dksX7_single_0 13 rfl rfl)
theorem dX7_single_15 : decode cX7_single 15 = .ok (.invokevirtual 247, 3) := dk_182 0 247 (dk_at dksX7_single_0 15 rfl rfl)
theorem dX7_single_18 : decode cX7_single 18 = .ok (.new 250, 3) := dk_187 0 250 (dk_at dksX7_single_0 18 rfl rfl)
theorem dX7_single_21 : decode cX7_single 21 = .ok (.dup, 1) := dk_89 (dk_at dksX7_single_0 21 rfl rfl)
theorem dX7_single_22 : decode cX7_single 22 = .ok (.aload_n 0, 1) := dk_42 (dk_at dksX7_single_0 22 rfl rfl)
theorem dX7_single_23 : decode cX7_single 23 = .ok (.invokevirtual 240, 3) := dk_182 0 240 (dk_at dksX7_single_1 0 rfl rfl)
theorem dX7_single_26 : decode cX7_single 26 = .ok (.invokespecial 252, 3) := dk_183 0 252 (dk_at dksX7_single_1 3 rfl rfl)
theorem dX7_single_29 : decode cX7_single 29 = .ok (.astore_n 1, 1) := dk_76 (dk_at dksX7_single_1 6 rfl rfl)
theorem dX7_single_30 : decode cX7_single 30 = .ok (.aload_n 0, 1) := dk_42 (dk_at dksX7_single_1 7 rfl rfl)
theorem dX7_single_31 : decode cX7_single 31 = .ok (.dup, 1) := dk_89 (dk_at dksX7_single_1 8 rfl rfl)
theorem dX7_single_32 : decode cX7_single 32 = .ok (.getfield 66, 3) := dk_180 0 66 (dk_at dksX7_single_1 9 rfl rfl)
theorem dX7_single_35 : decode cX7_single 35 = .ok (.iconst 1, 1) := dk_4 (dk_at dksX7_single_1 12 rfl rfl)
theorem dX7_single_36 : decode cX7_single 36 = .ok (.isub, 1) := dk_100 (dk_at dksX7_single_1 13 rfl rfl)
theorem dX7_single_37 : decode cX7_single 37 = .ok (.putfield 66, 3) := dk_181 0 66 (dk_at dksX7_single_1 14 rfl rfl)
theorem dX7_single_40 : decode cX7_single 40 = .ok (.aload_n 1, 1) := dk_43 (dk_at dksX7_single_1 17 rfl rfl)
theorem dX7_single_41 : decode cX7_single 41 = .ok (.areturn, 1) := dk_176 (dk_at dksX7_single_1 18 rfl rfl)
theorem dX7_single_42 : decode cX7_single 42 = .ok (.aload_n 0, 1) := dk_42 (dk_at dksX7_single_1 19 rfl rfl)
theorem dX7_single_43 : decode cX7_single 43 = .ok (.invokevirtual 43, 3) := dk_182 0 43 (dk_at dksX7_single_1 20 rfl rfl)
theorem dX7_single_46 : decode cX7_single 46 = .ok (.ldc 255, 2) := dk_18 255 (dk_at dksX7_single_2 0 rfl rfl)
theorem dX7_single_48 : decode cX7_single 48 = .ok (.invokevirtual 51, 3) := dk_182 0 51 (dk_at dksX7_single_2 2 rfl rfl)
theorem dX7_single_51 : decode cX7_single 51 = .ok (.ifCond .eq 23, 3) := dk_153 0 23 (dk_at dksX7_single_2 5 rfl rfl)
theorem dX7_single_54 : decode cX7_single 54 = .ok (.aload_n 0, 1) := dk_42 (dk_at dksX7_single_2 8 rfl rfl)
theorem dX7_single_55 : decode cX7_single 55 = .ok (.ldc 255, 2) := dk_18 255 (dk_at dksX7_single_2 9 rfl rfl)
theorem dX7_single_57 : decode cX7_single 57 = .ok (.invokevirtual 247, 3) := dk_182 0 247 (dk_at dksX7_single_2 11 rfl rfl)
theorem dX7_single_60 : decode cX7_single 60 = .ok (.aload_n 0, 1) := dk_42 (dk_at dksX7_single_2 14 rfl rfl)
theorem dX7_single_61 : decode cX7_single 61 = .ok (.invokevirtual 213, 3) := dk_182 0 213 (dk_at dksX7_single_2 15 rfl rfl)
theorem dX7_single_64 : decode cX7_single 64 = .ok (.astore_n 1, 1) := dk_76 (dk_at dksX7_single_2 18 rfl rfl)
theorem dX7_single_65 : decode cX7_single 65 = .ok (.aload_n 0, 1) := dk_42 (dk_at dksX7_single_2 19 rfl rfl)
theorem dX7_single_66 : decode cX7_single 66 = .ok (.ldc_w 257, 3) := dk_19 1 1 (dk_at dksX7_single_2 20 rfl rfl)
theorem dX7_single_69 : decode cX7_single 69 = .ok (.invokevirtual 259, 3) := dk_182 1 3 (dk_at dksX7_single_3 0 rfl rfl)
theorem dX7_single_72 : decode cX7_single 72 = .ok (.aload_n 1, 1) := dk_43 (dk_at dksX7_single_3 3 rfl rfl)
theorem dX7_single_73 : decode cX7_single 73 = .ok (.areturn, 1) := dk_176 (dk_at dksX7_single_3 4 rfl rfl)
theorem dX7_single_74 : decode cX7_single 74 = .ok (.aload_n 0, 1) := dk_42 (dk_at dksX7_single_3 5 rfl rfl)
theorem dX7_single_75 : decode cX7_single 75 = .ok (.ldc_w 262, 3) := dk_19 1 6 (dk_at dksX7_single_3 6 rfl rfl)
theorem dX7_single_78 : decode cX7_single 78 = .ok (.invokevirtual 55, 3) := dk_182 0 55 (dk_at dksX7_single_3 9 rfl rfl)
theorem dX7_single_81 : decode cX7_single 81 = .ok (.ifCond .eq 19, 3) := dk_153 0 19 (dk_at dksX7_single_3 12 rfl rfl)
theorem dX7_single_84 : decode cX7_single 84 = .ok (.new 264, 3) := dk_187 1 8 (dk_at dksX7_single_3 15 rfl rfl)
theorem dX7_single_87 : decode cX7_single 87 = .ok (.dup, 1) := dk_89 (dk_at dksX7_single_3 18 rfl rfl)
theorem dX7_single_88 : decode cX7_single 88 = .ok (.aload_n 0, 1) := dk_42 (dk_at dksX7_single_3 19 rfl rfl)
theorem dX7_single_89 : decode cX7_single 89 = .ok (.aload_n 0, 1) := dk_42 (dk_at dksX7_single_3 20 rfl rfl)
theorem dX7_single_90 : decode cX7_single 90 = .ok (.getfield 21, 3) := dk_180 0 21 (dk_at dksX7_single_3 21 rfl rfl)
theorem dX7_single_93 : decode cX7_single 93 = .ok (.invokevirtual 187, 3) := dk_182 0 187 (dk_at dksX7_single_4 0 rfl rfl)
theorem dX7_single_96 : decode cX7_single 96 = .ok (.invokespecial 266, 3) := dk_183 1 10 (dk_at dksX7_single_4 3 rfl rfl)
theorem dX7_single_99 : decode cX7_single 99 = .ok (.areturn, 1) := dk_176 (dk_at dksX7_single_4 6 rfl rfl)
theorem dX7_single_100 : decode cX7_single 100 = .ok (.aload_n 0, 1) := dk_42 (dk_at dksX7_single_4 7 rfl rfl)
theorem dX7_single_101 : decode cX7_single 101 = .ok (.ldc_w 267, 3) := dk_19 1 11 (dk_at dksX7_single_4 8 rfl rfl)
theorem dX7_single_104 : decode cX7_single 104 = .ok (.invokevirtual 55, 3) := dk_182 0 55 (dk_at dksX7_single_4 11 rfl rfl)
theorem dX7_single_107 : decode cX7_single 107 = .ok (.ifCond .eq 19, 3) := dk_153 0 19 (dk_at dksX7_single_4 14 rfl rfl)
theorem dX7_single_110 : decode cX7_single 110 = .ok (.new 269, 3) := dk_187 1 13 (dk_at dksX7_single_4 17 rfl rfl)
theorem dX7_single_113 : decode cX7_single 113 = .ok (.dup, 1) := dk_89 (dk_at dksX7_single_4 20 rfl rfl)
theorem dX7_single_114 : decode cX7_single 114 = .ok (.aload_n 0, 1) := dk_42 (dk_at dksX7_single_4 21 rfl rfl)
theorem dX7_single_115 : decode cX7_single 115 = .ok (.aload_n 0, 1) := dk_42 (dk_at dksX7_single_4 22 rfl rfl)
theorem dX7_single_116 : decode cX7_single 116 = .ok (.getfield 21, 3) := dk_180 0 21 (dk_at dksX7_single_5 0 rfl rfl)
theorem dX7_single_119 : decode cX7_single 119 = .ok (.invokevirtual 187, 3) := dk_182 0 187 (dk_at dksX7_single_5 3 rfl rfl)
theorem dX7_single_122 : decode cX7_single 122 = .ok (.invokespecial 271, 3) := dk_183 1 15 (dk_at dksX7_single_5 6 rfl rfl)
theorem dX7_single_125 : decode cX7_single 125 = .ok (.areturn, 1) := dk_176 (dk_at dksX7_single_5 9 rfl rfl)
theorem dX7_single_126 : decode cX7_single 126 = .ok (.aload_n 0, 1) := dk_42 (dk_at dksX7_single_5 10 rfl rfl)
theorem dX7_single_127 : decode cX7_single 127 = .ok (.invokevirtual 201, 3) := dk_182 0 201 (dk_at dksX7_single_5 11 rfl rfl)
theorem dX7_single_130 : decode cX7_single 130 = .ok (.astore_n 1, 1) := dk_76 (dk_at dksX7_single_5 14 rfl rfl)
theorem dX7_single_131 : decode cX7_single 131 = .ok (.aload_n 0, 1) := dk_42 (dk_at dksX7_single_5 15 rfl rfl)
theorem dX7_single_132 : decode cX7_single 132 = .ok (.invokevirtual 43, 3) := dk_182 0 43 (dk_at dksX7_single_5 16 rfl rfl)
theorem dX7_single_135 : decode cX7_single 135 = .ok (.astore_n 2, 1) := dk_77 (dk_at dksX7_single_5 19 rfl rfl)
theorem dX7_single_136 : decode cX7_single 136 = .ok (.aload_n 2, 1) := dk_44 (dk_at dksX7_single_5 20 rfl rfl)
theorem dX7_single_137 : decode cX7_single 137 = .ok (.getfield 62, 3) := dk_180 0 62 (dk_at dksX7_single_5 21 rfl rfl)
theorem dX7_single_140 : decode cX7_single 140 = .ok (.getstatic 272, 3) := dk_178 1 16 (dk_at dksX7_single_6 0 rfl rfl)
theorem dX7_single_143 : decode cX7_single 143 = .ok (.if_acmp .ne 20, 3) := dk_166 0 20 (dk_at dksX7_single_6 3 rfl rfl)
theorem dX7_single_146 : decode cX7_single 146 = .ok (.ldc_w 275, 3) := dk_19 1 19 (dk_at dksX7_single_6 6 rfl rfl)
theorem dX7_single_149 : decode cX7_single 149 = .ok (.aload_n 2, 1) := dk_44 (dk_at dksX7_single_6 9 rfl rfl)
theorem dX7_single_150 : decode cX7_single 150 = .ok (.getfield 87, 3) := dk_180 0 87 (dk_at dksX7_single_6 10 rfl rfl)
theorem dX7_single_153 : decode cX7_single 153 = .ok (.iconst 0, 1) := dk_3 (dk_at dksX7_single_6 13 rfl rfl)
theorem dX7_single_154 : decode cX7_single 154 = .ok (.invokevirtual 277, 3) := dk_182 1 21 (dk_at dksX7_single_6 14 rfl rfl)
theorem dX7_single_157 : decode cX7_single 157 = .ok (.invokevirtual 283, 3) := dk_182 1 27 (dk_at dksX7_single_6 17 rfl rfl)
theorem dX7_single_160 : decode cX7_single 160 = .ok (.ifCond .ge 8, 3) := dk_156 0 8 (dk_at dksX7_single_6 20 rfl rfl)
theorem dX7_single_163 : decode cX7_single 163 = .ok (.aload_n 0, 1) := dk_42 (dk_at dksX7_single_6 23 rfl rfl)
theorem dX7_single_164 : decode cX7_single 164 = .ok (.invokevirtual 58, 3) := dk_182 0 58 (dk_at dksX7_single_7 0 rfl rfl)
theorem dX7_single_167 : decode cX7_single 167 = .ok (.athrow, 1) := dk_191 (dk_at dksX7_single_7 3 rfl rfl)
theorem dX7_single_168 : decode cX7_single 168 = .ok (.aload_n 0, 1) := dk_42 (dk_at dksX7_single_7 4 rfl rfl)
theorem dX7_single_169 : decode cX7_single 169 = .ok (.dup, 1) := dk_89 (dk_at dksX7_single_7 5 rfl rfl)
theorem dX7_single_170 : decode cX7_single 170 = .ok (.getfield 29, 3) := dk_180 0 29 (dk_at dksX7_single_7 6 rfl rfl)
theorem dX7_single_173 : decode cX7_single 173 = .ok (.iconst 1, 1) := dk_4 (dk_at dksX7_single_7 9 rfl rfl)
theorem dX7_single_174 : decode cX7_single 174 = .ok (.iadd, 1) := dk_96 (dk_at dksX7_single_7 10 rfl rfl)
theorem dX7_single_175 : decode cX7_single 175 = .ok (.putfield 29, 3) := dk_181 0 29 (dk_at dksX7_single_7 11 rfl rfl)
theorem dX7_single_178 : decode cX7_single 178 = .ok (.new 287, 3) := dk_187 1 31 (dk_at dksX7_single_7 14 rfl rfl)
theorem dX7_single_181 : decode cX7_single 181 = .ok (.dup, 1) := dk_89 (dk_at dksX7_single_7 17 rfl rfl)
theorem dX7_single_182 : decode cX7_single 182 = .ok (.aload_n 2, 1) := dk_44 (dk_at dksX7_single_7 18 rfl rfl)
theorem dX7_single_183 : decode cX7_single 183 = .ok (.getfield 87, 3) := dk_180 0 87 (dk_at dksX7_single_7 19 rfl rfl)
theorem dX7_single_186 : decode cX7_single 186 = .ok (.aload_n 1, 1) := dk_43 (dk_at dksX7_single_7 22 rfl rfl)
theorem dX7_single_187 : decode cX7_single 187 = .ok (.aload_n 0, 1) := dk_42 (dk_at dksX7_single_7 23 rfl rfl)
theorem dX7_single_188 : decode cX7_single 188 = .ok (.invokevirtual 201, 3) := dk_182 0 201 (dk_at dksX7_single_8 0 rfl rfl)
theorem dX7_single_191 : decode cX7_single 191 = .ok (.invokespecial 289, 3) := dk_183 1 33 (dk_at dksX7_single_8 3 rfl rfl)
theorem dX7_single_194 : decode cX7_single 194 = .ok (.areturn, 1) := dk_176 (dk_at dksX7_single_8 6 rfl rfl)
theorem q114 : (Jvm.Cond.initialized "RingDomino$Reader") ∈ lw_all := lw_g (lw_at lw_m1 15 rfl) rfl
theorem q227 : (Jvm.Cond.fieldLinkNest "RingDomino$Reader" (125 : Nat) "RingDomino$Game" "columns" "I" "RingDomino") ∈ lw_tbl := lw_at lw_m1 128 rfl
theorem q231 : (Jvm.Cond.fieldLinkNest "RingDomino$Reader" (130 : Nat) "RingDomino$Game" "rows" "I" "RingDomino") ∈ lw_tbl := lw_at lw_m1 132 rfl
theorem q236 : (Jvm.Cond.fieldLinkNest "RingDomino$Reader" (180 : Nat) "RingDomino$Game" "orders" "Ljava/util/ArrayList;" "RingDomino") ∈ lw_tbl := lw_at lw_m1 137 rfl
theorem q287 : (Jvm.Cond.instantiable "RingDomino$Reader" (6 : Nat)) ∈ lw_all := lw_g (lw_at lw_m1 188 rfl) rfl
theorem q332 : (Jvm.Cond.fieldLinkNest "RingDomino$Reader" (62 : Nat) "RingDomino$Token" "sort" "LRingDomino$Sort;" "RingDomino") ∈ lw_tbl := lw_at lw_m1 233 rfl
theorem q336 : (Jvm.Cond.fieldLinkNest "RingDomino$Reader" (87 : Nat) "RingDomino$Token" "text" "Ljava/lang/String;" "RingDomino") ∈ lw_tbl := lw_at lw_m1 237 rfl
theorem q338 : (Jvm.Cond.fieldLinkNest "RingDomino$Reader" (47 : Nat) "RingDomino$Token" "at" "I" "RingDomino") ∈ lw_tbl := lw_at lw_m1 239 rfl
theorem q800 : (Jvm.Cond.selects "RingDomino$Reader" ({ cls := "java/lang/Object", name := "getClass", desc := "()Ljava/lang/Class;" } : Jvm.MethodName) ({ cls := "java/lang/Object", name := "getClass", desc := "()Ljava/lang/Class;" } : Jvm.MethodName)) ∈ lw_all := lw_g (lw_at lw_m3 221 rfl) rfl
theorem q853 : (Jvm.Cond.instanceMethod ({ cls := "RingDomino$Reader", name := "<init>", desc := "(Ljava/util/List;)V" } : Jvm.MethodName)) ∈ lw_all := lw_g (lw_at lw_m4 34 rfl) rfl
theorem q854 : (Jvm.Cond.code ({ cls := "RingDomino$Reader", name := "<init>", desc := "(Ljava/util/List;)V" } : Jvm.MethodName) prog_17_method_1_code (2 : Nat) (Option.none : Option Jvm.ClassFile.FieldType)) ∈ lw_all := lw_g (lw_at lw_m4 35 rfl) rfl
theorem q855 : (Jvm.Cond.methodLink "RingDomino$Reader" (3 : Nat) ({ cls := "java/lang/Object", name := "<init>", desc := "()V" } : Jvm.MethodName)) ∈ lw_all := lw_g (lw_at lw_m4 36 rfl) rfl
theorem q856 : (Jvm.Cond.classLink "RingDomino$Reader" (9 : Nat) "RingDomino$Game") ∈ lw_all := lw_g (lw_at lw_m4 37 rfl) rfl
theorem q857 : (Jvm.Cond.methodLinkNest "RingDomino$Reader" (11 : Nat) ({ cls := "RingDomino$Game", name := "<init>", desc := "()V" } : Jvm.MethodName) "RingDomino") ∈ lw_tbl := lw_at lw_m4 38 rfl
theorem q858 : (Jvm.Cond.classLink "RingDomino$Reader" (18 : Nat) "java/util/HashMap") ∈ lw_all := lw_g (lw_at lw_m4 39 rfl) rfl
theorem q860 : (Jvm.Cond.methodLink "RingDomino$Reader" (20 : Nat) ({ cls := "java/util/HashMap", name := "<init>", desc := "()V" } : Jvm.MethodName)) ∈ lw_all := lw_g (lw_at lw_m4 41 rfl) rfl
theorem q890 : (Jvm.Cond.fieldLink "RingDomino$Reader" (25 : Nat) "RingDomino$Reader" "tokens" "Ljava/util/List;") ∈ lw_all := lw_g (lw_at lw_m4 71 rfl) rfl
theorem q891 : (Jvm.Cond.fieldLink "RingDomino$Reader" (29 : Nat) "RingDomino$Reader" "at" "I") ∈ lw_all := lw_g (lw_at lw_m4 72 rfl) rfl
theorem q892 : (Jvm.Cond.fieldLink "RingDomino$Reader" (66 : Nat) "RingDomino$Reader" "depth" "I") ∈ lw_all := lw_g (lw_at lw_m4 73 rfl) rfl
theorem q893 : (Jvm.Cond.fieldLink "RingDomino$Reader" (75 : Nat) "RingDomino$Reader" "isSecond" "Z") ∈ lw_all := lw_g (lw_at lw_m4 74 rfl) rfl
theorem q894 : (Jvm.Cond.fieldLink "RingDomino$Reader" (12 : Nat) "RingDomino$Reader" "game" "LRingDomino$Game;") ∈ lw_all := lw_g (lw_at lw_m4 75 rfl) rfl
theorem q895 : (Jvm.Cond.fieldLink "RingDomino$Reader" (21 : Nat) "RingDomino$Reader" "tiles" "Ljava/util/HashMap;") ∈ lw_all := lw_g (lw_at lw_m4 76 rfl) rfl
theorem q896 : (Jvm.Cond.laysFinal "RingDomino$Reader" "RingDomino$Reader" "tokens" "Ljava/util/List;") ∈ lw_all := lw_g (lw_at lw_m4 77 rfl) rfl
theorem q897 : (Jvm.Cond.soleField "RingDomino$Reader" "tokens") ∈ lw_all := lw_g (lw_at lw_m4 78 rfl) rfl
theorem q898 : (Jvm.Cond.lays "RingDomino$Reader" "RingDomino$Reader" "at" "I") ∈ lw_all := lw_g (lw_at lw_m4 79 rfl) rfl
theorem q899 : (Jvm.Cond.soleField "RingDomino$Reader" "at") ∈ lw_all := lw_g (lw_at lw_m4 80 rfl) rfl
theorem q900 : (Jvm.Cond.lays "RingDomino$Reader" "RingDomino$Reader" "depth" "I") ∈ lw_all := lw_g (lw_at lw_m4 81 rfl) rfl
theorem q901 : (Jvm.Cond.soleField "RingDomino$Reader" "depth") ∈ lw_all := lw_g (lw_at lw_m4 82 rfl) rfl
theorem q902 : (Jvm.Cond.lays "RingDomino$Reader" "RingDomino$Reader" "isSecond" "Z") ∈ lw_all := lw_g (lw_at lw_m4 83 rfl) rfl
theorem q903 : (Jvm.Cond.soleField "RingDomino$Reader" "isSecond") ∈ lw_all := lw_g (lw_at lw_m4 84 rfl) rfl
theorem q904 : (Jvm.Cond.lays "RingDomino$Reader" "RingDomino$Reader" "game" "LRingDomino$Game;") ∈ lw_all := lw_g (lw_at lw_m4 85 rfl) rfl
theorem q905 : (Jvm.Cond.soleField "RingDomino$Reader" "game") ∈ lw_all := lw_g (lw_at lw_m4 86 rfl) rfl
theorem q906 : (Jvm.Cond.laysFinal "RingDomino$Reader" "RingDomino$Reader" "tiles" "Ljava/util/HashMap;") ∈ lw_all := lw_g (lw_at lw_m4 87 rfl) rfl
theorem q907 : (Jvm.Cond.soleField "RingDomino$Reader" "tiles") ∈ lw_all := lw_g (lw_at lw_m4 88 rfl) rfl
theorem q908 : (Jvm.Cond.superclass "RingDomino$Reader" "java/lang/Object") ∈ lw_all := lw_g (lw_at lw_m4 89 rfl) rfl
theorem q910 : (Jvm.Cond.instanceMethod ({ cls := "RingDomino$Reader", name := "read", desc := "()LRingDomino$Game;" } : Jvm.MethodName)) ∈ lw_all := lw_g (lw_at lw_m4 91 rfl) rfl
theorem q911 : (Jvm.Cond.selects "RingDomino$Reader" ({ cls := "RingDomino$Reader", name := "read", desc := "()LRingDomino$Game;" } : Jvm.MethodName) ({ cls := "RingDomino$Reader", name := "read", desc := "()LRingDomino$Game;" } : Jvm.MethodName)) ∈ lw_all := lw_g (lw_at lw_m4 92 rfl) rfl
theorem q912 : (Jvm.Cond.code ({ cls := "RingDomino$Reader", name := "read", desc := "()LRingDomino$Game;" } : Jvm.MethodName) prog_17_method_9_code (1 : Nat) (Option.some (Jvm.ClassFile.FieldType.object "RingDomino$Game"))) ∈ lw_all := lw_g (lw_at lw_m4 93 rfl) rfl
theorem q913 : (Jvm.Cond.methodLink "RingDomino$Reader" (73 : Nat) ({ cls := "RingDomino$Reader", name := "game", desc := "()V" } : Jvm.MethodName)) ∈ lw_all := lw_g (lw_at lw_m4 94 rfl) rfl
theorem q914 : (Jvm.Cond.privateMethod ({ cls := "RingDomino$Reader", name := "game", desc := "()V" } : Jvm.MethodName)) ∈ lw_tbl := lw_at lw_m4 95 rfl
theorem q915 : (Jvm.Cond.instanceMethod ({ cls := "RingDomino$Reader", name := "game", desc := "()V" } : Jvm.MethodName)) ∈ lw_all := lw_g (lw_at lw_m4 96 rfl) rfl
theorem q916 : (Jvm.Cond.code ({ cls := "RingDomino$Reader", name := "game", desc := "()V" } : Jvm.MethodName) prog_17_method_14_code (2 : Nat) (Option.none : Option Jvm.ClassFile.FieldType)) ∈ lw_all := lw_g (lw_at lw_m4 97 rfl) rfl
theorem q917 : (Jvm.Cond.stringRef "RingDomino$Reader" (119 : Nat) "board") ∈ lw_tbl := lw_at lw_m4 98 rfl
theorem q918 : (Jvm.Cond.methodLink "RingDomino$Reader" (55 : Nat) ({ cls := "RingDomino$Reader", name := "takeIf", desc := "(Ljava/lang/String;)Z" } : Jvm.MethodName)) ∈ lw_all := lw_g (lw_at lw_m4 99 rfl) rfl
theorem q919 : (Jvm.Cond.privateMethod ({ cls := "RingDomino$Reader", name := "takeIf", desc := "(Ljava/lang/String;)Z" } : Jvm.MethodName)) ∈ lw_tbl := lw_at lw_m4 100 rfl
theorem q920 : (Jvm.Cond.instanceMethod ({ cls := "RingDomino$Reader", name := "takeIf", desc := "(Ljava/lang/String;)Z" } : Jvm.MethodName)) ∈ lw_all := lw_g (lw_at lw_m4 101 rfl) rfl
theorem q921 : (Jvm.Cond.code ({ cls := "RingDomino$Reader", name := "takeIf", desc := "(Ljava/lang/String;)Z" } : Jvm.MethodName) prog_17_method_4_code (3 : Nat) (Option.some Jvm.ClassFile.FieldType.boolean)) ∈ lw_all := lw_g (lw_at lw_m4 102 rfl) rfl
theorem q922 : (Jvm.Cond.methodLink "RingDomino$Reader" (43 : Nat) ({ cls := "RingDomino$Reader", name := "now", desc := "()LRingDomino$Token;" } : Jvm.MethodName)) ∈ lw_all := lw_g (lw_at lw_m4 103 rfl) rfl
theorem q923 : (Jvm.Cond.privateMethod ({ cls := "RingDomino$Reader", name := "now", desc := "()LRingDomino$Token;" } : Jvm.MethodName)) ∈ lw_tbl := lw_at lw_m4 104 rfl
theorem q924 : (Jvm.Cond.instanceMethod ({ cls := "RingDomino$Reader", name := "now", desc := "()LRingDomino$Token;" } : Jvm.MethodName)) ∈ lw_all := lw_g (lw_at lw_m4 105 rfl) rfl
theorem q925 : (Jvm.Cond.code ({ cls := "RingDomino$Reader", name := "now", desc := "()LRingDomino$Token;" } : Jvm.MethodName) prog_17_method_2_code (1 : Nat) (Option.some (Jvm.ClassFile.FieldType.object "RingDomino$Token"))) ∈ lw_all := lw_g (lw_at lw_m4 106 rfl) rfl
theorem q926 : (Jvm.Cond.interfaceEntry "RingDomino$Reader" (33 : Nat)) ∈ lw_tbl := lw_at lw_m4 107 rfl
theorem q927 : (Jvm.Cond.methodLink "RingDomino$Reader" (33 : Nat) ({ cls := "java/util/List", name := "get", desc := "(I)Ljava/lang/Object;" } : Jvm.MethodName)) ∈ lw_all := lw_g (lw_at lw_m4 108 rfl) rfl
theorem q944 : (Jvm.Cond.classLink "RingDomino$Reader" (39 : Nat) "RingDomino$Token") ∈ lw_all := lw_g (lw_at lw_m4 125 rfl) rfl
theorem q945 : (Jvm.Cond.methodLink "RingDomino$Reader" (51 : Nat) ({ cls := "RingDomino$Token", name := "is", desc := "(Ljava/lang/String;)Z" } : Jvm.MethodName)) ∈ lw_all := lw_g (lw_at lw_m4 126 rfl) rfl
theorem q952 : (Jvm.Cond.methodLink "RingDomino$Reader" (121 : Nat) ({ cls := "RingDomino$Reader", name := "number", desc := "(II)I" } : Jvm.MethodName)) ∈ lw_all := lw_g (lw_at lw_m4 133 rfl) rfl
theorem q953 : (Jvm.Cond.privateMethod ({ cls := "RingDomino$Reader", name := "number", desc := "(II)I" } : Jvm.MethodName)) ∈ lw_tbl := lw_at lw_m4 134 rfl
theorem q954 : (Jvm.Cond.instanceMethod ({ cls := "RingDomino$Reader", name := "number", desc := "(II)I" } : Jvm.MethodName)) ∈ lw_all := lw_g (lw_at lw_m4 135 rfl) rfl
theorem q955 : (Jvm.Cond.code ({ cls := "RingDomino$Reader", name := "number", desc := "(II)I" } : Jvm.MethodName) prog_17_method_15_code (4 : Nat) (Option.some Jvm.ClassFile.FieldType.int)) ∈ lw_all := lw_g (lw_at lw_m4 136 rfl) rfl
theorem q956 : (Jvm.Cond.fieldLink "RingDomino$Reader" (146 : Nat) "RingDomino$Sort" "NUMBER" "LRingDomino$Sort;") ∈ lw_all := lw_g (lw_at lw_m4 137 rfl) rfl
theorem q957 : (Jvm.Cond.methodLink "RingDomino$Reader" (84 : Nat) ({ cls := "RingDomino$Reader", name := "take", desc := "(LRingDomino$Sort;)LRingDomino$Token;" } : Jvm.MethodName)) ∈ lw_all := lw_g (lw_at lw_m4 138 rfl) rfl
theorem q958 : (Jvm.Cond.privateMethod ({ cls := "RingDomino$Reader", name := "take", desc := "(LRingDomino$Sort;)LRingDomino$Token;" } : Jvm.MethodName)) ∈ lw_tbl := lw_at lw_m4 139 rfl
theorem q959 : (Jvm.Cond.instanceMethod ({ cls := "RingDomino$Reader", name := "take", desc := "(LRingDomino$Sort;)LRingDomino$Token;" } : Jvm.MethodName)) ∈ lw_all := lw_g (lw_at lw_m4 140 rfl) rfl
theorem q960 : (Jvm.Cond.code ({ cls := "RingDomino$Reader", name := "take", desc := "(LRingDomino$Sort;)LRingDomino$Token;" } : Jvm.MethodName) prog_17_method_6_code (3 : Nat) (Option.some (Jvm.ClassFile.FieldType.object "RingDomino$Token"))) ∈ lw_all := lw_g (lw_at lw_m4 141 rfl) rfl
theorem q961 : (Jvm.Cond.methodLink "RingDomino$Reader" (58 : Nat) ({ cls := "RingDomino$Reader", name := "wrong", desc := "()LRingDomino$Fault;" } : Jvm.MethodName)) ∈ lw_all := lw_g (lw_at lw_m4 142 rfl) rfl
theorem q962 : (Jvm.Cond.privateMethod ({ cls := "RingDomino$Reader", name := "wrong", desc := "()LRingDomino$Fault;" } : Jvm.MethodName)) ∈ lw_tbl := lw_at lw_m4 143 rfl
theorem q963 : (Jvm.Cond.instanceMethod ({ cls := "RingDomino$Reader", name := "wrong", desc := "()LRingDomino$Fault;" } : Jvm.MethodName)) ∈ lw_all := lw_g (lw_at lw_m4 144 rfl) rfl
theorem q964 : (Jvm.Cond.code ({ cls := "RingDomino$Reader", name := "wrong", desc := "()LRingDomino$Fault;" } : Jvm.MethodName) prog_17_method_3_code (1 : Nat) (Option.some (Jvm.ClassFile.FieldType.object "RingDomino$Fault"))) ∈ lw_all := lw_g (lw_at lw_m4 145 rfl) rfl
theorem q965 : (Jvm.Cond.classLink "RingDomino$Reader" (41 : Nat) "RingDomino$Fault") ∈ lw_all := lw_g (lw_at lw_m4 146 rfl) rfl
theorem q974 : (Jvm.Cond.methodLink "RingDomino$Reader" (48 : Nat) ({ cls := "RingDomino$Fault", name := "<init>", desc := "(II)V" } : Jvm.MethodName)) ∈ lw_all := lw_g (lw_at lw_m4 155 rfl) rfl
theorem q991 : (Jvm.Cond.methodLink "RingDomino$Reader" (149 : Nat) ({ cls := "RingDomino$Token", name := "number", desc := "()I" } : Jvm.MethodName)) ∈ lw_all := lw_g (lw_at lw_m4 172 rfl) rfl
theorem q1007 : (Jvm.Cond.methodLink "RingDomino$Reader" (95 : Nat) ({ cls := "RingDomino$Reader", name := "check", desc := "(IZLRingDomino$Token;)V" } : Jvm.MethodName)) ∈ lw_all := lw_g (lw_at lw_m4 188 rfl) rfl
theorem q1008 : (Jvm.Cond.privateMethod ({ cls := "RingDomino$Reader", name := "check", desc := "(IZLRingDomino$Token;)V" } : Jvm.MethodName)) ∈ lw_tbl := lw_at lw_m4 189 rfl
theorem q1009 : (Jvm.Cond.instanceMethod ({ cls := "RingDomino$Reader", name := "check", desc := "(IZLRingDomino$Token;)V" } : Jvm.MethodName)) ∈ lw_all := lw_g (lw_at lw_m4 190 rfl) rfl
theorem q1010 : (Jvm.Cond.code ({ cls := "RingDomino$Reader", name := "check", desc := "(IZLRingDomino$Token;)V" } : Jvm.MethodName) prog_17_method_10_code (4 : Nat) (Option.none : Option Jvm.ClassFile.FieldType)) ∈ lw_all := lw_g (lw_at lw_m4 191 rfl) rfl
theorem q1011 : (Jvm.Cond.stringRef "RingDomino$Reader" (128 : Nat) "by") ∈ lw_tbl := lw_at lw_m4 192 rfl
theorem q1012 : (Jvm.Cond.methodLink "RingDomino$Reader" (69 : Nat) ({ cls := "RingDomino$Reader", name := "take", desc := "(Ljava/lang/String;)V" } : Jvm.MethodName)) ∈ lw_all := lw_g (lw_at lw_m4 193 rfl) rfl
theorem q1013 : (Jvm.Cond.privateMethod ({ cls := "RingDomino$Reader", name := "take", desc := "(Ljava/lang/String;)V" } : Jvm.MethodName)) ∈ lw_tbl := lw_at lw_m4 194 rfl
theorem q1014 : (Jvm.Cond.instanceMethod ({ cls := "RingDomino$Reader", name := "take", desc := "(Ljava/lang/String;)V" } : Jvm.MethodName)) ∈ lw_all := lw_g (lw_at lw_m4 195 rfl) rfl
theorem q1015 : (Jvm.Cond.code ({ cls := "RingDomino$Reader", name := "take", desc := "(Ljava/lang/String;)V" } : Jvm.MethodName) prog_17_method_5_code (2 : Nat) (Option.none : Option Jvm.ClassFile.FieldType)) ∈ lw_all := lw_g (lw_at lw_m4 196 rfl) rfl
theorem q1016 : (Jvm.Cond.stringRef "RingDomino$Reader" (133 : Nat) ";") ∈ lw_tbl := lw_at lw_m4 197 rfl
theorem q1017 : (Jvm.Cond.fieldLink "RingDomino$Reader" (135 : Nat) "RingDomino$Sort" "END" "LRingDomino$Sort;") ∈ lw_all := lw_g (lw_at lw_m4 198 rfl) rfl
theorem q1018 : (Jvm.Cond.stringRef "RingDomino$Reader" (138 : Nat) "tile") ∈ lw_tbl := lw_at lw_m4 199 rfl
theorem q1019 : (Jvm.Cond.methodLink "RingDomino$Reader" (140 : Nat) ({ cls := "RingDomino$Reader", name := "tile", desc := "()V" } : Jvm.MethodName)) ∈ lw_all := lw_g (lw_at lw_m4 200 rfl) rfl
theorem q1020 : (Jvm.Cond.privateMethod ({ cls := "RingDomino$Reader", name := "tile", desc := "()V" } : Jvm.MethodName)) ∈ lw_tbl := lw_at lw_m4 201 rfl
theorem q1021 : (Jvm.Cond.instanceMethod ({ cls := "RingDomino$Reader", name := "tile", desc := "()V" } : Jvm.MethodName)) ∈ lw_all := lw_g (lw_at lw_m4 202 rfl) rfl
theorem q1022 : (Jvm.Cond.code ({ cls := "RingDomino$Reader", name := "tile", desc := "()V" } : Jvm.MethodName) prog_17_method_16_code (2 : Nat) (Option.none : Option Jvm.ClassFile.FieldType)) ∈ lw_all := lw_g (lw_at lw_m4 203 rfl) rfl
theorem q1023 : (Jvm.Cond.methodLink "RingDomino$Reader" (151 : Nat) ({ cls := "RingDomino$Reader", name := "name", desc := "(Ljava/util/HashMap;I)Ljava/lang/String;" } : Jvm.MethodName)) ∈ lw_all := lw_g (lw_at lw_m4 204 rfl) rfl
theorem q1024 : (Jvm.Cond.privateMethod ({ cls := "RingDomino$Reader", name := "name", desc := "(Ljava/util/HashMap;I)Ljava/lang/String;" } : Jvm.MethodName)) ∈ lw_tbl := lw_at lw_m4 205 rfl
theorem q1025 : (Jvm.Cond.instanceMethod ({ cls := "RingDomino$Reader", name := "name", desc := "(Ljava/util/HashMap;I)Ljava/lang/String;" } : Jvm.MethodName)) ∈ lw_all := lw_g (lw_at lw_m4 206 rfl) rfl
theorem q1026 : (Jvm.Cond.code ({ cls := "RingDomino$Reader", name := "name", desc := "(Ljava/util/HashMap;I)Ljava/lang/String;" } : Jvm.MethodName) prog_17_method_11_code (4 : Nat) (Option.some (Jvm.ClassFile.FieldType.object "java/lang/String"))) ∈ lw_all := lw_g (lw_at lw_m4 207 rfl) rfl
theorem q1027 : (Jvm.Cond.fieldLink "RingDomino$Reader" (79 : Nat) "RingDomino$Sort" "NAME" "LRingDomino$Sort;") ∈ lw_all := lw_g (lw_at lw_m4 208 rfl) rfl
theorem q1028 : (Jvm.Cond.methodLink "RingDomino$Reader" (91 : Nat) ({ cls := "java/util/HashMap", name := "containsKey", desc := "(Ljava/lang/Object;)Z" } : Jvm.MethodName)) ∈ lw_all := lw_g (lw_at lw_m4 209 rfl) rfl
theorem q1063 : (Jvm.Cond.selects "RingDomino$Reader" ({ cls := "java/lang/Object", name := "hashCode", desc := "()I" } : Jvm.MethodName) ({ cls := "java/lang/Object", name := "hashCode", desc := "()I" } : Jvm.MethodName)) ∈ lw_all := lw_g (lw_at lw_m5 4 rfl) rfl
theorem q1180 : (Jvm.Cond.selects "RingDomino$Reader" ({ cls := "java/lang/Object", name := "equals", desc := "(Ljava/lang/Object;)Z" } : Jvm.MethodName) ({ cls := "java/lang/Object", name := "equals", desc := "(Ljava/lang/Object;)Z" } : Jvm.MethodName)) ∈ lw_all := lw_g (lw_at lw_m5 121 rfl) rfl
theorem q1542 : (Jvm.Cond.methodLink "RingDomino$Reader" (99 : Nat) ({ cls := "java/util/HashMap", name := "size", desc := "()I" } : Jvm.MethodName)) ∈ lw_all := lw_g (lw_at lw_m7 3 rfl) rfl
theorem q1546 : (Jvm.Cond.classLink "RingDomino$Reader" (155 : Nat) "RingDomino$Tile") ∈ lw_all := lw_g (lw_at lw_m7 7 rfl) rfl
theorem q1548 : (Jvm.Cond.methodLink "RingDomino$Reader" (157 : Nat) ({ cls := "RingDomino$Tile", name := "<init>", desc := "(III)V" } : Jvm.MethodName)) ∈ lw_all := lw_g (lw_at lw_m7 9 rfl) rfl
theorem q1556 : (Jvm.Cond.methodLink "RingDomino$Reader" (160 : Nat) ({ cls := "RingDomino$Game", name := "add", desc := "(LRingDomino$Tile;)V" } : Jvm.MethodName)) ∈ lw_all := lw_g (lw_at lw_m7 17 rfl) rfl
theorem q1580 : (Jvm.Cond.methodLink "RingDomino$Reader" (164 : Nat) ({ cls := "RingDomino$Reader", name := "put", desc := "(Ljava/util/HashMap;Ljava/lang/String;)V" } : Jvm.MethodName)) ∈ lw_all := lw_g (lw_at lw_m7 41 rfl) rfl
theorem q1581 : (Jvm.Cond.privateMethod ({ cls := "RingDomino$Reader", name := "put", desc := "(Ljava/util/HashMap;Ljava/lang/String;)V" } : Jvm.MethodName)) ∈ lw_tbl := lw_at lw_m7 42 rfl
theorem q1582 : (Jvm.Cond.instanceMethod ({ cls := "RingDomino$Reader", name := "put", desc := "(Ljava/util/HashMap;Ljava/lang/String;)V" } : Jvm.MethodName)) ∈ lw_all := lw_g (lw_at lw_m7 43 rfl) rfl
theorem q1583 : (Jvm.Cond.code ({ cls := "RingDomino$Reader", name := "put", desc := "(Ljava/util/HashMap;Ljava/lang/String;)V" } : Jvm.MethodName) prog_17_method_12_code (3 : Nat) (Option.none : Option Jvm.ClassFile.FieldType)) ∈ lw_all := lw_g (lw_at lw_m7 44 rfl) rfl
theorem q1584 : (Jvm.Cond.methodLink "RingDomino$Reader" (103 : Nat) ({ cls := "java/lang/Integer", name := "valueOf", desc := "(I)Ljava/lang/Integer;" } : Jvm.MethodName)) ∈ lw_all := lw_g (lw_at lw_m7 45 rfl) rfl
theorem q1585 : (Jvm.Cond.methodLink "RingDomino$Reader" (109 : Nat) ({ cls := "java/util/HashMap", name := "put", desc := "(Ljava/lang/Object;Ljava/lang/Object;)Ljava/lang/Object;" } : Jvm.MethodName)) ∈ lw_all := lw_g (lw_at lw_m7 46 rfl) rfl
theorem q1725 : (Jvm.Cond.methodLink "RingDomino$Reader" (142 : Nat) ({ cls := "RingDomino$Reader", name := "order", desc := "(LRingDomino$Token;)V" } : Jvm.MethodName)) ∈ lw_all := lw_g (lw_at lw_m7 186 rfl) rfl
theorem q1726 : (Jvm.Cond.privateMethod ({ cls := "RingDomino$Reader", name := "order", desc := "(LRingDomino$Token;)V" } : Jvm.MethodName)) ∈ lw_tbl := lw_at lw_m7 187 rfl
theorem q1727 : (Jvm.Cond.instanceMethod ({ cls := "RingDomino$Reader", name := "order", desc := "(LRingDomino$Token;)V" } : Jvm.MethodName)) ∈ lw_all := lw_g (lw_at lw_m7 188 rfl) rfl
theorem q1728 : (Jvm.Cond.code ({ cls := "RingDomino$Reader", name := "order", desc := "(LRingDomino$Token;)V" } : Jvm.MethodName) prog_17_method_18_code (7 : Nat) (Option.none : Option Jvm.ClassFile.FieldType)) ∈ lw_all := lw_g (lw_at lw_m7 189 rfl) rfl
theorem q1729 : (Jvm.Cond.methodLink "RingDomino$Reader" (176 : Nat) ({ cls := "RingDomino$Reader", name := "craft", desc := "()LRingDomino$Craft;" } : Jvm.MethodName)) ∈ lw_all := lw_g (lw_at lw_m7 190 rfl) rfl
theorem q1730 : (Jvm.Cond.privateMethod ({ cls := "RingDomino$Reader", name := "craft", desc := "()LRingDomino$Craft;" } : Jvm.MethodName)) ∈ lw_tbl := lw_at lw_m7 191 rfl
theorem q1731 : (Jvm.Cond.instanceMethod ({ cls := "RingDomino$Reader", name := "craft", desc := "()LRingDomino$Craft;" } : Jvm.MethodName)) ∈ lw_all := lw_g (lw_at lw_m7 192 rfl) rfl
theorem q1732 : (Jvm.Cond.code ({ cls := "RingDomino$Reader", name := "craft", desc := "()LRingDomino$Craft;" } : Jvm.MethodName) prog_17_method_17_code (5 : Nat) (Option.some (Jvm.ClassFile.FieldType.object "RingDomino$Craft"))) ∈ lw_all := lw_g (lw_at lw_m7 193 rfl) rfl
theorem q1733 : (Jvm.Cond.fieldLinkNest "RingDomino$Reader" (167 : Nat) "RingDomino$Craft" "ALL" "[LRingDomino$Craft;" "RingDomino") ∈ lw_tbl := lw_at lw_m7 194 rfl
theorem q1735 : (Jvm.Cond.methodLink "RingDomino$Reader" (184 : Nat) ({ cls := "java/util/ArrayList", name := "size", desc := "()I" } : Jvm.MethodName)) ∈ lw_all := lw_g (lw_at lw_m7 196 rfl) rfl
theorem q1736 : (Jvm.Cond.methodLink "RingDomino$Reader" (187 : Nat) ({ cls := "RingDomino$Reader", name := "known", desc := "(Ljava/util/HashMap;)I" } : Jvm.MethodName)) ∈ lw_all := lw_g (lw_at lw_m7 197 rfl) rfl
theorem q1737 : (Jvm.Cond.privateMethod ({ cls := "RingDomino$Reader", name := "known", desc := "(Ljava/util/HashMap;)I" } : Jvm.MethodName)) ∈ lw_tbl := lw_at lw_m7 198 rfl
theorem q1738 : (Jvm.Cond.instanceMethod ({ cls := "RingDomino$Reader", name := "known", desc := "(Ljava/util/HashMap;)I" } : Jvm.MethodName)) ∈ lw_all := lw_g (lw_at lw_m7 199 rfl) rfl
theorem q1739 : (Jvm.Cond.code ({ cls := "RingDomino$Reader", name := "known", desc := "(Ljava/util/HashMap;)I" } : Jvm.MethodName) prog_17_method_13_code (3 : Nat) (Option.some Jvm.ClassFile.FieldType.int)) ∈ lw_all := lw_g (lw_at lw_m7 200 rfl) rfl
theorem q1740 : (Jvm.Cond.methodLink "RingDomino$Reader" (113 : Nat) ({ cls := "java/util/HashMap", name := "get", desc := "(Ljava/lang/Object;)Ljava/lang/Object;" } : Jvm.MethodName)) ∈ lw_all := lw_g (lw_at lw_m7 201 rfl) rfl
theorem q1744 : (Jvm.Cond.classLink "RingDomino$Reader" (104 : Nat) "java/lang/Integer") ∈ lw_all := lw_g (lw_at lw_m7 205 rfl) rfl
theorem q1745 : (Jvm.Cond.methodLink "RingDomino$Reader" (116 : Nat) ({ cls := "java/lang/Integer", name := "intValue", desc := "()I" } : Jvm.MethodName)) ∈ lw_all := lw_g (lw_at lw_m7 206 rfl) rfl
theorem q1746 : (Jvm.Cond.classLink "RingDomino$Reader" (191 : Nat) "RingDomino$Plain") ∈ lw_all := lw_g (lw_at lw_m7 207 rfl) rfl
theorem q1748 : (Jvm.Cond.methodLink "RingDomino$Reader" (193 : Nat) ({ cls := "RingDomino$Plain", name := "<init>", desc := "(I)V" } : Jvm.MethodName)) ∈ lw_all := lw_g (lw_at lw_m7 209 rfl) rfl
theorem q1759 : (Jvm.Cond.fieldLink "RingDomino$Reader" (196 : Nat) "RingDomino$Craft" "PUT" "LRingDomino$Craft;") ∈ lw_all := lw_g (lw_at lw_m7 220 rfl) rfl
theorem q1761 : (Jvm.Cond.stringRef "RingDomino$Reader" (200 : Nat) "at") ∈ lw_tbl := lw_at lw_m7 222 rfl
theorem q1762 : (Jvm.Cond.methodLink "RingDomino$Reader" (201 : Nat) ({ cls := "RingDomino$Reader", name := "sum", desc := "()LRingDomino$Sum;" } : Jvm.MethodName)) ∈ lw_all := lw_g (lw_at lw_m7 223 rfl) rfl
theorem q1763 : (Jvm.Cond.privateMethod ({ cls := "RingDomino$Reader", name := "sum", desc := "()LRingDomino$Sum;" } : Jvm.MethodName)) ∈ lw_tbl := lw_at lw_m7 224 rfl
theorem q1764 : (Jvm.Cond.instanceMethod ({ cls := "RingDomino$Reader", name := "sum", desc := "()LRingDomino$Sum;" } : Jvm.MethodName)) ∈ lw_all := lw_g (lw_at lw_m7 225 rfl) rfl
theorem q1765 : (Jvm.Cond.code ({ cls := "RingDomino$Reader", name := "sum", desc := "()LRingDomino$Sum;" } : Jvm.MethodName) prog_17_method_22_code (3 : Nat) (Option.some (Jvm.ClassFile.FieldType.object "RingDomino$Sum"))) ∈ lw_all := lw_g (lw_at lw_m7 226 rfl) rfl
theorem q1766 : (Jvm.Cond.methodLink "RingDomino$Reader" (292 : Nat) ({ cls := "RingDomino$Reader", name := "product", desc := "()LRingDomino$Sum;" } : Jvm.MethodName)) ∈ lw_all := lw_g (lw_at lw_m7 227 rfl) rfl
theorem q1767 : (Jvm.Cond.privateMethod ({ cls := "RingDomino$Reader", name := "product", desc := "()LRingDomino$Sum;" } : Jvm.MethodName)) ∈ lw_tbl := lw_at lw_m7 228 rfl
theorem q1768 : (Jvm.Cond.instanceMethod ({ cls := "RingDomino$Reader", name := "product", desc := "()LRingDomino$Sum;" } : Jvm.MethodName)) ∈ lw_all := lw_g (lw_at lw_m7 229 rfl) rfl
theorem q1769 : (Jvm.Cond.code ({ cls := "RingDomino$Reader", name := "product", desc := "()LRingDomino$Sum;" } : Jvm.MethodName) prog_17_method_23_code (3 : Nat) (Option.some (Jvm.ClassFile.FieldType.object "RingDomino$Sum"))) ∈ lw_all := lw_g (lw_at lw_m7 230 rfl) rfl
theorem q1770 : (Jvm.Cond.methodLink "RingDomino$Reader" (313 : Nat) ({ cls := "RingDomino$Reader", name := "value", desc := "()LRingDomino$Sum;" } : Jvm.MethodName)) ∈ lw_all := lw_g (lw_at lw_m7 231 rfl) rfl
theorem q1771 : (Jvm.Cond.privateMethod ({ cls := "RingDomino$Reader", name := "value", desc := "()LRingDomino$Sum;" } : Jvm.MethodName)) ∈ lw_tbl := lw_at lw_m7 232 rfl
theorem q1772 : (Jvm.Cond.instanceMethod ({ cls := "RingDomino$Reader", name := "value", desc := "()LRingDomino$Sum;" } : Jvm.MethodName)) ∈ lw_all := lw_g (lw_at lw_m7 233 rfl) rfl
theorem q1773 : (Jvm.Cond.code ({ cls := "RingDomino$Reader", name := "value", desc := "()LRingDomino$Sum;" } : Jvm.MethodName) prog_17_method_25_code (5 : Nat) (Option.some (Jvm.ClassFile.FieldType.object "RingDomino$Sum"))) ∈ lw_all := lw_g (lw_at lw_m7 234 rfl) rfl
theorem q1774 : (Jvm.Cond.fieldLinkNest "RingDomino$Reader" (334 : Nat) "RingDomino$What" "ALL" "[LRingDomino$What;" "RingDomino") ∈ lw_tbl := lw_at lw_m7 235 rfl
theorem q1776 : (Jvm.Cond.classLink "RingDomino$Reader" (340 : Nat) "RingDomino$Asked") ∈ lw_all := lw_g (lw_at lw_m7 237 rfl) rfl
theorem q1778 : (Jvm.Cond.methodLink "RingDomino$Reader" (345 : Nat) ({ cls := "RingDomino$Reader", name := "which", desc := "(LRingDomino$Kind;)I" } : Jvm.MethodName)) ∈ lw_all := lw_g (lw_at lw_m7 239 rfl) rfl
theorem q1779 : (Jvm.Cond.privateMethod ({ cls := "RingDomino$Reader", name := "which", desc := "(LRingDomino$Kind;)I" } : Jvm.MethodName)) ∈ lw_tbl := lw_at lw_m8 0 rfl
theorem q1780 : (Jvm.Cond.instanceMethod ({ cls := "RingDomino$Reader", name := "which", desc := "(LRingDomino$Kind;)I" } : Jvm.MethodName)) ∈ lw_all := lw_g (lw_at lw_m8 1 rfl) rfl
theorem q1781 : (Jvm.Cond.code ({ cls := "RingDomino$Reader", name := "which", desc := "(LRingDomino$Kind;)I" } : Jvm.MethodName) prog_17_method_24_code (2 : Nat) (Option.some Jvm.ClassFile.FieldType.int)) ∈ lw_all := lw_g (lw_at lw_m8 2 rfl) rfl
theorem q1782 : (Jvm.Cond.fieldLink "RingDomino$Reader" (326 : Nat) "RingDomino$Kind" "NOTHING" "LRingDomino$Kind;") ∈ lw_all := lw_g (lw_at lw_m8 3 rfl) rfl
theorem q1784 : (Jvm.Cond.stringRef "RingDomino$Reader" (332 : Nat) "of") ∈ lw_tbl := lw_at lw_m8 5 rfl
theorem q1785 : (Jvm.Cond.methodLink "RingDomino$Reader" (349 : Nat) ({ cls := "RingDomino$Asked", name := "<init>", desc := "(LRingDomino$What;I)V" } : Jvm.MethodName)) ∈ lw_all := lw_g (lw_at lw_m8 6 rfl) rfl
theorem q1796 : (Jvm.Cond.stringRef "RingDomino$Reader" (297 : Nat) "-") ∈ lw_tbl := lw_at lw_m8 17 rfl
theorem q1797 : (Jvm.Cond.methodLink "RingDomino$Reader" (247 : Nat) ({ cls := "RingDomino$Reader", name := "deeper", desc := "(Ljava/lang/String;)V" } : Jvm.MethodName)) ∈ lw_all := lw_g (lw_at lw_m8 18 rfl) rfl
theorem q1798 : (Jvm.Cond.privateMethod ({ cls := "RingDomino$Reader", name := "deeper", desc := "(Ljava/lang/String;)V" } : Jvm.MethodName)) ∈ lw_tbl := lw_at lw_m8 19 rfl
theorem q1799 : (Jvm.Cond.instanceMethod ({ cls := "RingDomino$Reader", name := "deeper", desc := "(Ljava/lang/String;)V" } : Jvm.MethodName)) ∈ lw_all := lw_g (lw_at lw_m8 20 rfl) rfl
theorem q1800 : (Jvm.Cond.code ({ cls := "RingDomino$Reader", name := "deeper", desc := "(Ljava/lang/String;)V" } : Jvm.MethodName) prog_17_method_7_code (2 : Nat) (Option.none : Option Jvm.ClassFile.FieldType)) ∈ lw_all := lw_g (lw_at lw_m8 21 rfl) rfl
theorem q1801 : (Jvm.Cond.classLink "RingDomino$Reader" (352 : Nat) "RingDomino$Turned") ∈ lw_all := lw_g (lw_at lw_m8 22 rfl) rfl
theorem q1803 : (Jvm.Cond.methodLink "RingDomino$Reader" (354 : Nat) ({ cls := "RingDomino$Turned", name := "<init>", desc := "(LRingDomino$Sum;)V" } : Jvm.MethodName)) ∈ lw_all := lw_g (lw_at lw_m8 24 rfl) rfl
theorem q1811 : (Jvm.Cond.fieldLink "RingDomino$Reader" (357 : Nat) "RingDomino$Sign" "LEAST" "LRingDomino$Sign;") ∈ lw_all := lw_g (lw_at lw_m8 32 rfl) rfl
theorem q1813 : (Jvm.Cond.fieldLink "RingDomino$Reader" (361 : Nat) "RingDomino$Sign" "MOST_OF" "LRingDomino$Sign;") ∈ lw_all := lw_g (lw_at lw_m8 34 rfl) rfl
theorem q1815 : (Jvm.Cond.stringRef "RingDomino$Reader" (364 : Nat) "(") ∈ lw_tbl := lw_at lw_m8 36 rfl
theorem q1816 : (Jvm.Cond.stringRef "RingDomino$Reader" (205 : Nat) ",") ∈ lw_tbl := lw_at lw_m8 37 rfl
theorem q1817 : (Jvm.Cond.classLink "RingDomino$Reader" (308 : Nat) "RingDomino$Joined") ∈ lw_all := lw_g (lw_at lw_m8 38 rfl) rfl
theorem q1819 : (Jvm.Cond.methodLink "RingDomino$Reader" (310 : Nat) ({ cls := "RingDomino$Joined", name := "<init>", desc := "(LRingDomino$Sign;LRingDomino$Sum;LRingDomino$Sum;)V" } : Jvm.MethodName)) ∈ lw_all := lw_g (lw_at lw_m8 40 rfl) rfl
theorem q1833 : (Jvm.Cond.stringRef "RingDomino$Reader" (366 : Nat) ")") ∈ lw_tbl := lw_at lw_m8 54 rfl
theorem q1834 : (Jvm.Cond.methodLink "RingDomino$Reader" (259 : Nat) ({ cls := "RingDomino$Reader", name := "close", desc := "(Ljava/lang/String;)V" } : Jvm.MethodName)) ∈ lw_all := lw_g (lw_at lw_m8 55 rfl) rfl
theorem q1835 : (Jvm.Cond.privateMethod ({ cls := "RingDomino$Reader", name := "close", desc := "(Ljava/lang/String;)V" } : Jvm.MethodName)) ∈ lw_tbl := lw_at lw_m8 56 rfl
theorem q1836 : (Jvm.Cond.instanceMethod ({ cls := "RingDomino$Reader", name := "close", desc := "(Ljava/lang/String;)V" } : Jvm.MethodName)) ∈ lw_all := lw_g (lw_at lw_m8 57 rfl) rfl
theorem q1837 : (Jvm.Cond.code ({ cls := "RingDomino$Reader", name := "close", desc := "(Ljava/lang/String;)V" } : Jvm.MethodName) prog_17_method_8_code (2 : Nat) (Option.none : Option Jvm.ClassFile.FieldType)) ∈ lw_all := lw_g (lw_at lw_m8 58 rfl) rfl
theorem q1838 : (Jvm.Cond.stringRef "RingDomino$Reader" (316 : Nat) "*") ∈ lw_tbl := lw_at lw_m8 59 rfl
theorem q1839 : (Jvm.Cond.stringRef "RingDomino$Reader" (318 : Nat) "/") ∈ lw_tbl := lw_at lw_m8 60 rfl
theorem q1840 : (Jvm.Cond.fieldLink "RingDomino$Reader" (320 : Nat) "RingDomino$Sign" "TIMES" "LRingDomino$Sign;") ∈ lw_all := lw_g (lw_at lw_m8 61 rfl) rfl
theorem q1842 : (Jvm.Cond.fieldLink "RingDomino$Reader" (323 : Nat) "RingDomino$Sign" "PARTED" "LRingDomino$Sign;") ∈ lw_all := lw_g (lw_at lw_m8 63 rfl) rfl
theorem q1844 : (Jvm.Cond.stringRef "RingDomino$Reader" (295 : Nat) "+") ∈ lw_tbl := lw_at lw_m8 65 rfl
theorem q1845 : (Jvm.Cond.fieldLink "RingDomino$Reader" (299 : Nat) "RingDomino$Sign" "PLUS" "LRingDomino$Sign;") ∈ lw_all := lw_g (lw_at lw_m8 66 rfl) rfl
theorem q1847 : (Jvm.Cond.fieldLink "RingDomino$Reader" (305 : Nat) "RingDomino$Sign" "MINUS" "LRingDomino$Sign;") ∈ lw_all := lw_g (lw_at lw_m8 68 rfl) rfl
theorem q1849 : (Jvm.Cond.stringRef "RingDomino$Reader" (207 : Nat) "turned") ∈ lw_tbl := lw_at lw_m8 70 rfl
theorem q1850 : (Jvm.Cond.classLink "RingDomino$Reader" (209 : Nat) "RingDomino$Order") ∈ lw_all := lw_g (lw_at lw_m8 71 rfl) rfl
theorem q1852 : (Jvm.Cond.stringRef "RingDomino$Reader" (211 : Nat) "when") ∈ lw_tbl := lw_at lw_m8 73 rfl
theorem q1853 : (Jvm.Cond.methodLink "RingDomino$Reader" (213 : Nat) ({ cls := "RingDomino$Reader", name := "test", desc := "()LRingDomino$Test;" } : Jvm.MethodName)) ∈ lw_all := lw_g (lw_at lw_m8 74 rfl) rfl
theorem q1854 : (Jvm.Cond.privateMethod ({ cls := "RingDomino$Reader", name := "test", desc := "()LRingDomino$Test;" } : Jvm.MethodName)) ∈ lw_tbl := lw_at lw_m8 75 rfl
theorem q1855 : (Jvm.Cond.instanceMethod ({ cls := "RingDomino$Reader", name := "test", desc := "()LRingDomino$Test;" } : Jvm.MethodName)) ∈ lw_all := lw_g (lw_at lw_m8 76 rfl) rfl
theorem q1856 : (Jvm.Cond.code ({ cls := "RingDomino$Reader", name := "test", desc := "()LRingDomino$Test;" } : Jvm.MethodName) prog_17_method_19_code (2 : Nat) (Option.some (Jvm.ClassFile.FieldType.object "RingDomino$Test"))) ∈ lw_all := lw_g (lw_at lw_m8 77 rfl) rfl
theorem q1857 : (Jvm.Cond.classLink "RingDomino$Reader" (227 : Nat) "RingDomino$Several") ∈ lw_all := lw_g (lw_at lw_m8 78 rfl) rfl
theorem q1859 : (Jvm.Cond.methodLink "RingDomino$Reader" (229 : Nat) ({ cls := "RingDomino$Several", name := "<init>", desc := "(Z)V" } : Jvm.MethodName)) ∈ lw_all := lw_g (lw_at lw_m8 80 rfl) rfl
theorem q1867 : (Jvm.Cond.fieldLinkNest "RingDomino$Reader" (232 : Nat) "RingDomino$Several" "tests" "Ljava/util/ArrayList;" "RingDomino") ∈ lw_tbl := lw_at lw_m8 88 rfl
theorem q1873 : (Jvm.Cond.methodLink "RingDomino$Reader" (235 : Nat) ({ cls := "RingDomino$Reader", name := "both", desc := "()LRingDomino$Test;" } : Jvm.MethodName)) ∈ lw_all := lw_g (lw_at lw_m8 94 rfl) rfl
theorem q1874 : (Jvm.Cond.privateMethod ({ cls := "RingDomino$Reader", name := "both", desc := "()LRingDomino$Test;" } : Jvm.MethodName)) ∈ lw_tbl := lw_at lw_m8 95 rfl
theorem q1875 : (Jvm.Cond.instanceMethod ({ cls := "RingDomino$Reader", name := "both", desc := "()LRingDomino$Test;" } : Jvm.MethodName)) ∈ lw_all := lw_g (lw_at lw_m8 96 rfl) rfl
theorem q1876 : (Jvm.Cond.code ({ cls := "RingDomino$Reader", name := "both", desc := "()LRingDomino$Test;" } : Jvm.MethodName) prog_17_method_20_code (2 : Nat) (Option.some (Jvm.ClassFile.FieldType.object "RingDomino$Test"))) ∈ lw_all := lw_g (lw_at lw_m8 97 rfl) rfl
theorem q1877 : (Jvm.Cond.methodLink "RingDomino$Reader" (240 : Nat) ({ cls := "RingDomino$Reader", name := "single", desc := "()LRingDomino$Test;" } : Jvm.MethodName)) ∈ lw_all := lw_g (lw_at lw_m8 98 rfl) rfl
theorem q1878 : (Jvm.Cond.privateMethod ({ cls := "RingDomino$Reader", name := "single", desc := "()LRingDomino$Test;" } : Jvm.MethodName)) ∈ lw_tbl := lw_at lw_m8 99 rfl
theorem q1879 : (Jvm.Cond.instanceMethod ({ cls := "RingDomino$Reader", name := "single", desc := "()LRingDomino$Test;" } : Jvm.MethodName)) ∈ lw_all := lw_g (lw_at lw_m8 100 rfl) rfl
theorem q1880 : (Jvm.Cond.code ({ cls := "RingDomino$Reader", name := "single", desc := "()LRingDomino$Test;" } : Jvm.MethodName) prog_17_method_21_code (3 : Nat) (Option.some (Jvm.ClassFile.FieldType.object "RingDomino$Test"))) ∈ lw_all := lw_g (lw_at lw_m8 101 rfl) rfl
theorem q1881 : (Jvm.Cond.stringRef "RingDomino$Reader" (245 : Nat) "not") ∈ lw_tbl := lw_at lw_m8 102 rfl
theorem q1882 : (Jvm.Cond.classLink "RingDomino$Reader" (250 : Nat) "RingDomino$Denied") ∈ lw_all := lw_g (lw_at lw_m8 103 rfl) rfl
theorem q1884 : (Jvm.Cond.methodLink "RingDomino$Reader" (252 : Nat) ({ cls := "RingDomino$Denied", name := "<init>", desc := "(LRingDomino$Test;)V" } : Jvm.MethodName)) ∈ lw_all := lw_g (lw_at lw_m8 105 rfl) rfl
theorem q1892 : (Jvm.Cond.stringRef "RingDomino$Reader" (255 : Nat) "[") ∈ lw_tbl := lw_at lw_m8 113 rfl
theorem q1893 : (Jvm.Cond.stringRef "RingDomino$Reader" (257 : Nat) "]") ∈ lw_tbl := lw_at lw_m8 114 rfl
theorem q1894 : (Jvm.Cond.stringRef "RingDomino$Reader" (262 : Nat) "on") ∈ lw_tbl := lw_at lw_m8 115 rfl
theorem q1895 : (Jvm.Cond.classLink "RingDomino$Reader" (264 : Nat) "RingDomino$On") ∈ lw_all := lw_g (lw_at lw_m8 116 rfl) rfl
theorem q1897 : (Jvm.Cond.methodLink "RingDomino$Reader" (266 : Nat) ({ cls := "RingDomino$On", name := "<init>", desc := "(I)V" } : Jvm.MethodName)) ∈ lw_all := lw_g (lw_at lw_m8 118 rfl) rfl
theorem q1905 : (Jvm.Cond.stringRef "RingDomino$Reader" (267 : Nat) "fits") ∈ lw_tbl := lw_at lw_m8 126 rfl
theorem q1906 : (Jvm.Cond.classLink "RingDomino$Reader" (269 : Nat) "RingDomino$Fitting") ∈ lw_all := lw_g (lw_at lw_m8 127 rfl) rfl
theorem q1908 : (Jvm.Cond.methodLink "RingDomino$Reader" (271 : Nat) ({ cls := "RingDomino$Fitting", name := "<init>", desc := "(I)V" } : Jvm.MethodName)) ∈ lw_all := lw_g (lw_at lw_m8 129 rfl) rfl
theorem q1916 : (Jvm.Cond.fieldLink "RingDomino$Reader" (272 : Nat) "RingDomino$Sort" "SYMBOL" "LRingDomino$Sort;") ∈ lw_all := lw_g (lw_at lw_m8 137 rfl) rfl
theorem q1917 : (Jvm.Cond.stringRef "RingDomino$Reader" (275 : Nat) "<>=") ∈ lw_tbl := lw_at lw_m8 138 rfl
theorem q1918 : (Jvm.Cond.methodLink "RingDomino$Reader" (277 : Nat) ({ cls := "java/lang/String", name := "charAt", desc := "(I)C" } : Jvm.MethodName)) ∈ lw_all := lw_g (lw_at lw_m8 139 rfl) rfl
theorem q1919 : (Jvm.Cond.methodLink "RingDomino$Reader" (283 : Nat) ({ cls := "java/lang/String", name := "indexOf", desc := "(I)I" } : Jvm.MethodName)) ∈ lw_all := lw_g (lw_at lw_m8 140 rfl) rfl
theorem q1920 : (Jvm.Cond.classLink "RingDomino$Reader" (287 : Nat) "RingDomino$Compared") ∈ lw_all := lw_g (lw_at lw_m8 141 rfl) rfl
theorem q1922 : (Jvm.Cond.methodLink "RingDomino$Reader" (289 : Nat) ({ cls := "RingDomino$Compared", name := "<init>", desc := "(Ljava/lang/String;LRingDomino$Sum;LRingDomino$Sum;)V" } : Jvm.MethodName)) ∈ lw_all := lw_g (lw_at lw_m8 143 rfl) rfl
theorem q1936 : (Jvm.Cond.methodLink "RingDomino$Reader" (225 : Nat) ({ cls := "java/util/ArrayList", name := "add", desc := "(Ljava/lang/Object;)Z" } : Jvm.MethodName)) ∈ lw_all := lw_g (lw_at lw_m8 157 rfl) rfl
theorem q1937 : (Jvm.Cond.stringRef "RingDomino$Reader" (243 : Nat) "and") ∈ lw_tbl := lw_at lw_m8 158 rfl
theorem q1938 : (Jvm.Cond.stringRef "RingDomino$Reader" (238 : Nat) "or") ∈ lw_tbl := lw_at lw_m8 159 rfl
theorem q1939 : (Jvm.Cond.methodLink "RingDomino$Reader" (217 : Nat) ({ cls := "RingDomino$Test", name := "always", desc := "()LRingDomino$Test;" } : Jvm.MethodName)) ∈ lw_all := lw_g (lw_at lw_m8 160 rfl) rfl
theorem q1949 : (Jvm.Cond.methodLink "RingDomino$Reader" (222 : Nat) ({ cls := "RingDomino$Order", name := "<init>", desc := "(LRingDomino$Craft;ILRingDomino$Sum;LRingDomino$Sum;LRingDomino$Sum;LRingDomino$Test;)V" } : Jvm.MethodName)) ∈ lw_all := lw_g (lw_at lw_m8 170 rfl) rfl
theorem q3411 : (Jvm.Cond.castable "RingDomino$Reader" "java/lang/Object") ∈ lw_tbl := lw_at lw_m14 192 rfl
theorem q3475 : (Jvm.Cond.fieldLinkNest "RingDomino$Reader" (173 : Nat) "RingDomino$Craft" "word" "Ljava/lang/String;" "RingDomino") ∈ lw_tbl := lw_at lw_m15 16 rfl
theorem q3476 : (Jvm.Cond.fieldLinkNest "RingDomino$Reader" (339 : Nat) "RingDomino$What" "word" "Ljava/lang/String;" "RingDomino") ∈ lw_tbl := lw_at lw_m15 17 rfl
theorem q3477 : (Jvm.Cond.fieldLinkNest "RingDomino$Reader" (342 : Nat) "RingDomino$What" "kind" "LRingDomino$Kind;" "RingDomino") ∈ lw_tbl := lw_at lw_m15 18 rfl
theorem q3478 : (Jvm.Cond.fieldLinkNest "RingDomino$Reader" (360 : Nat) "RingDomino$Sign" "word" "Ljava/lang/String;" "RingDomino") ∈ lw_tbl := lw_at lw_m15 19 rfl
theorem in_X7 : ∀ w ∈ wsX70, w ∈ lw_all := lw_in wsX70 [896, 898, 900, 902, 904, 906] (by decide +kernel) (by decide +kernel)

/-! RingDomino$Scanner -/
def RX8 : String := "RingDomino$Scanner"
def TX8 : u_T := fun k => match k with
  | 0 => ("RingDomino$Scanner", "tape", "LRingDomino$Tape;", true)
  | _ => ("RingDomino$Scanner", "tokens", "Ljava/util/ArrayList;", true)
def tyX8 : Nat → FieldType := fun k => match k with
  | 0 => .object "RingDomino$Tape"
  | _ => .object "java/util/ArrayList"
abbrev wsX80 : List Cond := u_ws RX8 TX8 2
theorem nmX8 : ∀ a, a < 2 → ∀ b, b < 2 → a ≠ b → (TX8 a).2.1 ≠ (TX8 b).2.1 := by decide +kernel
theorem tyX8_ok : ∀ k, k < 2 → parseFieldDescriptor (TX8 k).2.2.1 = some (tyX8 k) := by decide +kernel
abbrev cX8_init : ByteArray := prog_18_method_1_code
def yX8_init : MethodName := ⟨RX8, "<init>", "(LRingDomino$Tape;)V"⟩
def dkwX8_init_0 : List UInt8 := [42, 183, 0, 3, 42, 187, 0, 9, 89, 183, 0, 11, 181, 0, 12, 42, 43, 181, 0, 18, 177]
abbrev dktX8_init_0 : List UInt8 := dkwX8_init_0 ++ []
theorem dksX8_init_0 : cX8_init.data.toList.drop 0 = dktX8_init_0 := by decide +kernel
theorem dX8_init_0 : decode cX8_init 0 = .ok (.aload_n 0, 1) := dk_42 (dk_at dksX8_init_0 0 rfl rfl)
theorem dX8_init_1 : decode cX8_init 1 = .ok (.invokespecial 3, 3) := dk_183 0 3 (dk_at dksX8_init_0 1 rfl rfl)
theorem dX8_init_4 : decode cX8_init 4 = .ok (.aload_n 0, 1) := dk_42 (dk_at dksX8_init_0 4 rfl rfl)
theorem dX8_init_5 : decode cX8_init 5 = .ok (.new 9, 3) := dk_187 0 9 (dk_at dksX8_init_0 5 rfl rfl)
theorem dX8_init_8 : decode cX8_init 8 = .ok (.dup, 1) := dk_89 (dk_at dksX8_init_0 8 rfl rfl)
theorem dX8_init_9 : decode cX8_init 9 = .ok (.invokespecial 11, 3) := dk_183 0 11 (dk_at dksX8_init_0 9 rfl rfl)
theorem dX8_init_12 : decode cX8_init 12 = .ok (.putfield 12, 3) := dk_181 0 12 (dk_at dksX8_init_0 12 rfl rfl)
theorem dX8_init_15 : decode cX8_init 15 = .ok (.aload_n 0, 1) := dk_42 (dk_at dksX8_init_0 15 rfl rfl)
theorem dX8_init_16 : decode cX8_init 16 = .ok (.aload_n 1, 1) := dk_43 (dk_at dksX8_init_0 16 rfl rfl)
theorem dX8_init_17 : decode cX8_init 17 = .ok (.putfield 18, 3) := dk_181 0 18 (dk_at dksX8_init_0 17 rfl rfl)
theorem dX8_init_20 : decode cX8_init 20 = .ok (.return_, 1) := dk_177 (dk_at dksX8_init_0 20 rfl rfl)
abbrev cX8_all : ByteArray := prog_18_method_6_code
def yX8_all : MethodName := ⟨RX8, "all", "()Ljava/util/List;"⟩
def dkwX8_all_4 : List UInt8 := [183, 0, 77, 182, 0, 50, 87, 42, 180, 0, 12, 176]
abbrev dktX8_all_4 : List UInt8 := dkwX8_all_4 ++ []
def dkwX8_all_3 : List UInt8 := [60, 167, 255, 185, 42, 180, 0, 12, 187, 0, 54, 89, 178, 0, 72, 18, 75, 42, 180, 0, 18, 180, 0, 32]
abbrev dktX8_all_3 : List UInt8 := dkwX8_all_3 ++ dktX8_all_4
def dkwX8_all_2 : List UInt8 := [44, 180, 0, 53, 178, 0, 59, 166, 0, 8, 42, 180, 0, 12, 176, 27, 44, 180, 0, 64, 182, 0, 68, 96]
abbrev dktX8_all_2 : List UInt8 := dkwX8_all_2 ++ dktX8_all_3
def dkwX8_all_1 : List UInt8 := [153, 0, 9, 132, 1, 1, 167, 255, 228, 42, 27, 182, 0, 46, 77, 42, 180, 0, 12, 44, 182, 0, 50, 87]
abbrev dktX8_all_1 : List UInt8 := dkwX8_all_1 ++ dktX8_all_2
def dkwX8_all_0 : List UInt8 := [3, 60, 27, 42, 180, 0, 18, 180, 0, 32, 162, 0, 66, 42, 180, 0, 18, 27, 182, 0, 38, 184, 0, 42]
abbrev dktX8_all_0 : List UInt8 := dkwX8_all_0 ++ dktX8_all_1
theorem dksX8_all_0 : cX8_all.data.toList.drop 0 = dktX8_all_0 := by decide +kernel
theorem dksX8_all_1 : cX8_all.data.toList.drop 24 = dktX8_all_1 := dk_seg dksX8_all_0 24 rfl rfl
theorem dksX8_all_2 : cX8_all.data.toList.drop 48 = dktX8_all_2 := dk_seg dksX8_all_1 24 rfl rfl
theorem dksX8_all_3 : cX8_all.data.toList.drop 72 = dktX8_all_3 := dk_seg dksX8_all_2 24 rfl rfl
theorem dksX8_all_4 : cX8_all.data.toList.drop 96 = dktX8_all_4 := dk_seg dksX8_all_3 24 rfl rfl
theorem dX8_all_0 : decode cX8_all 0 = .ok (.iconst 0, 1) := dk_3 (dk_at dksX8_all_0 0 rfl rfl)
theorem dX8_all_1 : decode cX8_all 1 = .ok (.istore_n 1, 1) := dk_60 (dk_at dksX8_all_0 1 rfl rfl)
theorem dX8_all_2 : decode cX8_all 2 = .ok (.iload_n 1, 1) := dk_27 (dk_at dksX8_all_0 2 rfl rfl)
theorem dX8_all_3 : decode cX8_all 3 = .ok (.aload_n 0, 1) := dk_42 (dk_at dksX8_all_0 3 rfl rfl)
theorem dX8_all_4 : decode cX8_all 4 = .ok (.getfield 18, 3) := dk_180 0 18 (dk_at dksX8_all_0 4 rfl rfl)
theorem dX8_all_7 : decode cX8_all 7 = .ok (.getfield 32, 3) := dk_180 0 32 (dk_at dksX8_all_0 7 rfl rfl)
theorem dX8_all_10 : decode cX8_all 10 = .ok (.if_icmp .ge 66, 3) := dk_162 0 66 (dk_at dksX8_all_0 10 rfl rfl)
theorem dX8_all_13 : decode cX8_all 13 = .ok (.aload_n 0, 1) := dk_42 (dk_at dksX8_all_0 13 rfl rfl)
theorem dX8_all_14 : decode cX8_all 14 = .ok (.getfield 18, 3) := dk_180 0 18 (dk_at dksX8_all_0 14 rfl rfl)
theorem dX8_all_17 : decode cX8_all 17 = .ok (.iload_n 1, 1) := dk_27 (dk_at dksX8_all_0 17 rfl rfl)
theorem dX8_all_18 : decode cX8_all 18 = .ok (.invokevirtual 38, 3) := dk_182 0 38 (dk_at dksX8_all_0 18 rfl rfl)
theorem dX8_all_21 : decode cX8_all 21 = .ok (.invokestatic 42, 3) := dk_184 0 42 (dk_at dksX8_all_0 21 rfl rfl)
theorem dX8_all_24 : decode cX8_all 24 = .ok (.ifCond .eq 9, 3) := dk_153 0 9 (dk_at dksX8_all_1 0 rfl rfl)
theorem dX8_all_27 : decode cX8_all 27 = .ok (.iinc 1 1, 3) := dk_132 1 1 (dk_at dksX8_all_1 3 rfl rfl)
theorem dX8_all_30 : decode cX8_all 30 = .ok (.goto (-28), 3) := dk_167 255 228 (dk_at dksX8_all_1 6 rfl rfl)
theorem dX8_all_33 : decode cX8_all 33 = .ok (.aload_n 0, 1) := dk_42 (dk_at dksX8_all_1 9 rfl rfl)
theorem dX8_all_34 : decode cX8_all 34 = .ok (.iload_n 1, 1) := dk_27 (dk_at dksX8_all_1 10 rfl rfl)
theorem dX8_all_35 : decode cX8_all 35 = .ok (.invokevirtual 46, 3) := dk_182 0 46 (dk_at dksX8_all_1 11 rfl rfl)
theorem dX8_all_38 : decode cX8_all 38 = .ok (.astore_n 2, 1) := dk_77 (dk_at dksX8_all_1 14 rfl rfl)
theorem dX8_all_39 : decode cX8_all 39 = .ok (.aload_n 0, 1) := dk_42 (dk_at dksX8_all_1 15 rfl rfl)
theorem dX8_all_40 : decode cX8_all 40 = .ok (.getfield 12, 3) := dk_180 0 12 (dk_at dksX8_all_1 16 rfl rfl)
theorem dX8_all_43 : decode cX8_all 43 = .ok (.aload_n 2, 1) := dk_44 (dk_at dksX8_all_1 19 rfl rfl)
theorem dX8_all_44 : decode cX8_all 44 = .ok (.invokevirtual 50, 3) := dk_182 0 50 (dk_at dksX8_all_1 20 rfl rfl)
theorem dX8_all_47 : decode cX8_all 47 = .ok (.pop, 1) := dk_87 (dk_at dksX8_all_1 23 rfl rfl)
theorem dX8_all_48 : decode cX8_all 48 = .ok (.aload_n 2, 1) := dk_44 (dk_at dksX8_all_2 0 rfl rfl)
theorem dX8_all_49 : decode cX8_all 49 = .ok (.getfield 53, 3) := dk_180 0 53 (dk_at dksX8_all_2 1 rfl rfl)
theorem dX8_all_52 : decode cX8_all 52 = .ok (.getstatic 59, 3) := dk_178 0 59 (dk_at dksX8_all_2 4 rfl rfl)
theorem dX8_all_55 : decode cX8_all 55 = .ok (.if_acmp .ne 8, 3) := dk_166 0 8 (dk_at dksX8_all_2 7 rfl rfl)
theorem dX8_all_58 : decode cX8_all 58 = .ok (.aload_n 0, 1) := dk_42 (dk_at dksX8_all_2 10 rfl rfl)
theorem dX8_all_59 : decode cX8_all 59 = .ok (.getfield 12, 3) := dk_180 0 12 (dk_at dksX8_all_2 11 rfl rfl)
theorem dX8_all_62 : decode cX8_all 62 = .ok (.areturn, 1) := dk_176 (dk_at dksX8_all_2 14 rfl rfl)
theorem dX8_all_63 : decode cX8_all 63 = .ok (.iload_n 1, 1) := dk_27 (dk_at dksX8_all_2 15 rfl rfl)
theorem dX8_all_64 : decode cX8_all 64 = .ok (.aload_n 2, 1) := dk_44 (dk_at dksX8_all_2 16 rfl rfl)
theorem dX8_all_65 : decode cX8_all 65 = .ok (.getfield 64, 3) := dk_180 0 64 (dk_at dksX8_all_2 17 rfl rfl)
theorem dX8_all_68 : decode cX8_all 68 = .ok (.invokevirtual 68, 3) := dk_182 0 68 (dk_at dksX8_all_2 20 rfl rfl)
theorem dX8_all_71 : decode cX8_all 71 = .ok (.iadd, 1) := dk_96 (dk_at dksX8_all_2 23 rfl rfl)
theorem dX8_all_72 : decode cX8_all 72 = .ok (.istore_n 1, 1) := dk_60 (dk_at dksX8_all_3 0 rfl rfl)
theorem dX8_all_73 : decode cX8_all 73 = .ok (.goto (-71), 3) := dk_167 255 185 (dk_at dksX8_all_3 1 rfl rfl)
theorem dX8_all_76 : decode cX8_all 76 = .ok (.aload_n 0, 1) := dk_42 (dk_at dksX8_all_3 4 rfl rfl)
theorem dX8_all_77 : decode cX8_all 77 = .ok (.getfield 12, 3) := dk_180 0 12 (dk_at dksX8_all_3 5 rfl rfl)
theorem dX8_all_80 : decode cX8_all 80 = .ok (.new 54, 3) := dk_187 0 54 (dk_at dksX8_all_3 8 rfl rfl)
theorem dX8_all_83 : decode cX8_all 83 = .ok (.dup, 1) := dk_89 (dk_at dksX8_all_3 11 rfl rfl)
theorem dX8_all_84 : decode cX8_all 84 = .ok (.getstatic 72, 3) := dk_178 0 72 (dk_at dksX8_all_3 12 rfl rfl)
theorem dX8_all_87 : decode cX8_all 87 = .ok (.ldc 75, 2) := dk_18 75 (dk_at dksX8_all_3 15 rfl rfl)
theorem dX8_all_89 : decode cX8_all 89 = .ok (.aload_n 0, 1) := dk_42 (dk_at dksX8_all_3 17 rfl rfl)
theorem dX8_all_90 : decode cX8_all 90 = .ok (.getfield 18, 3) := dk_180 0 18 (dk_at dksX8_all_3 18 rfl rfl)
theorem dX8_all_93 : decode cX8_all 93 = .ok (.getfield 32, 3) := dk_180 0 32 (dk_at dksX8_all_3 21 rfl rfl)
theorem dX8_all_96 : decode cX8_all 96 = .ok (.invokespecial 77, 3) := dk_183 0 77 (dk_at dksX8_all_4 0 rfl rfl)
theorem dX8_all_99 : decode cX8_all 99 = .ok (.invokevirtual 50, 3) := dk_182 0 50 (dk_at dksX8_all_4 3 rfl rfl)
theorem dX8_all_102 : decode cX8_all 102 = .ok (.pop, 1) := dk_87 (dk_at dksX8_all_4 6 rfl rfl)
theorem dX8_all_103 : decode cX8_all 103 = .ok (.aload_n 0, 1) := dk_42 (dk_at dksX8_all_4 7 rfl rfl)
theorem dX8_all_104 : decode cX8_all 104 = .ok (.getfield 12, 3) := dk_180 0 12 (dk_at dksX8_all_4 8 rfl rfl)
theorem dX8_all_107 : decode cX8_all 107 = .ok (.areturn, 1) := dk_176 (dk_at dksX8_all_4 11 rfl rfl)
abbrev cX8_isBlank : ByteArray := prog_18_method_4_code
def yX8_isBlank : MethodName := ⟨RX8, "isBlank", "(I)Z"⟩
def dkwX8_isBlank_0 : List UInt8 := [26, 16, 32, 159, 0, 9, 26, 16, 10, 160, 0, 7, 4, 167, 0, 4, 3, 172]
abbrev dktX8_isBlank_0 : List UInt8 := dkwX8_isBlank_0 ++ []
theorem dksX8_isBlank_0 : cX8_isBlank.data.toList.drop 0 = dktX8_isBlank_0 := by decide +kernel
theorem dX8_isBlank_0 : decode cX8_isBlank 0 = .ok (.iload_n 0, 1) := dk_26 (dk_at dksX8_isBlank_0 0 rfl rfl)
theorem dX8_isBlank_1 : decode cX8_isBlank 1 = .ok (.bipush 32, 2) := dk_16 32 (dk_at dksX8_isBlank_0 1 rfl rfl)
theorem dX8_isBlank_3 : decode cX8_isBlank 3 = .ok (.if_icmp .eq 9, 3) := dk_159 0 9 (dk_at dksX8_isBlank_0 3 rfl rfl)
theorem dX8_isBlank_6 : decode cX8_isBlank 6 = .ok (.iload_n 0, 1) := dk_26 (dk_at dksX8_isBlank_0 6 rfl rfl)
theorem dX8_isBlank_7 : decode cX8_isBlank 7 = .ok (.bipush 10, 2) := dk_16 10 (dk_at dksX8_isBlank_0 7 rfl rfl)
theorem dX8_isBlank_9 : decode cX8_isBlank 9 = .ok (.if_icmp .ne 7, 3) := dk_160 0 7 (dk_at dksX8_isBlank_0 9 rfl rfl)
theorem dX8_isBlank_12 : decode cX8_isBlank 12 = .ok (.iconst 1, 1) := dk_4 (dk_at dksX8_isBlank_0 12 rfl rfl)
theorem dX8_isBlank_13 : decode cX8_isBlank 13 = .ok (.goto 4, 3) := dk_167 0 4 (dk_at dksX8_isBlank_0 13 rfl rfl)
theorem dX8_isBlank_16 : decode cX8_isBlank 16 = .ok (.iconst 0, 1) := dk_3 (dk_at dksX8_isBlank_0 16 rfl rfl)
theorem dX8_isBlank_17 : decode cX8_isBlank 17 = .ok (.ireturn, 1) := dk_172 (dk_at dksX8_isBlank_0 17 rfl rfl)
abbrev cX8_next : ByteArray := prog_18_method_7_code
def yX8_next : MethodName := ⟨RX8, "next", "(I)LRingDomino$Token;"⟩
def dkwX8_next_11 : List UInt8 := [180, 0, 18, 27, 29, 182, 0, 88, 27, 183, 0, 77, 176]
abbrev dktX8_next_11 : List UInt8 := dkwX8_next_11 ++ []
def dkwX8_next_10 : List UInt8 := [158, 0, 18, 18, 104, 28, 182, 0, 106, 155, 0, 9, 178, 0, 109, 167, 0, 6, 178, 0, 59, 42]
abbrev dktX8_next_10 : List UInt8 := dkwX8_next_10 ++ dktX8_next_11
def dkwX8_next_9 : List UInt8 := [160, 0, 19, 42, 180, 0, 18, 29, 182, 0, 38, 16, 61, 160, 0, 6, 132, 3, 1, 187, 0, 54, 89, 28]
abbrev dktX8_next_9 : List UInt8 := dkwX8_next_9 ++ dktX8_next_10
def dkwX8_next_8 : List UInt8 := [42, 180, 0, 18, 27, 29, 182, 0, 88, 27, 183, 0, 77, 176, 28, 16, 60, 159, 0, 9, 28, 16, 62]
abbrev dktX8_next_8 : List UInt8 := dkwX8_next_8 ++ dktX8_next_9
def dkwX8_next_7 : List UInt8 := [167, 255, 239, 187, 0, 54, 89, 29, 27, 100, 16, 6, 164, 0, 9, 178, 0, 59, 167, 0, 6, 178, 0, 101]
abbrev dktX8_next_7 : List UInt8 := dkwX8_next_7 ++ dktX8_next_8
def dkwX8_next_6 : List UInt8 := [184, 0, 85, 153, 0, 58, 42, 180, 0, 18, 29, 182, 0, 38, 184, 0, 85, 153, 0, 9, 132, 3, 1]
abbrev dktX8_next_6 : List UInt8 := dkwX8_next_6 ++ dktX8_next_7
def dkwX8_next_5 : List UInt8 := [184, 0, 91, 153, 0, 9, 178, 0, 95, 167, 0, 6, 178, 0, 98, 25, 4, 27, 183, 0, 77, 176, 28]
abbrev dktX8_next_5 : List UInt8 := dkwX8_next_5 ++ dktX8_next_6
def dkwX8_next_4 : List UInt8 := [187, 0, 54, 89, 25, 4, 182, 0, 68, 16, 10, 164, 0, 9, 178, 0, 59, 167, 0, 20, 25, 4]
abbrev dktX8_next_4 : List UInt8 := dkwX8_next_4 ++ dktX8_next_5
def dkwX8_next_3 : List UInt8 := [184, 0, 85, 153, 0, 9, 132, 3, 1, 167, 255, 225, 42, 180, 0, 18, 27, 29, 182, 0, 88, 58, 4]
abbrev dktX8_next_3 : List UInt8 := dkwX8_next_3 ++ dktX8_next_4
def dkwX8_next_2 : List UInt8 := [42, 180, 0, 18, 29, 182, 0, 38, 184, 0, 82, 154, 0, 17, 42, 180, 0, 18, 29, 182, 0, 38]
abbrev dktX8_next_2 : List UInt8 := dkwX8_next_2 ++ dktX8_next_3
def dkwX8_next_1 : List UInt8 := [183, 0, 77, 176, 42, 180, 0, 18, 27, 182, 0, 38, 61, 27, 4, 96, 62, 28, 184, 0, 82, 153, 0, 92]
abbrev dktX8_next_1 : List UInt8 := dkwX8_next_1 ++ dktX8_next_2
def dkwX8_next_0 : List UInt8 := [42, 180, 0, 12, 182, 0, 80, 17, 1, 144, 160, 0, 17, 187, 0, 54, 89, 178, 0, 59, 18, 75, 27]
abbrev dktX8_next_0 : List UInt8 := dkwX8_next_0 ++ dktX8_next_1
theorem dksX8_next_0 : cX8_next.data.toList.drop 0 = dktX8_next_0 := by decide +kernel
theorem dksX8_next_1 : cX8_next.data.toList.drop 23 = dktX8_next_1 := dk_seg dksX8_next_0 23 rfl rfl
theorem dksX8_next_2 : cX8_next.data.toList.drop 47 = dktX8_next_2 := dk_seg dksX8_next_1 24 rfl rfl
theorem dksX8_next_3 : cX8_next.data.toList.drop 69 = dktX8_next_3 := dk_seg dksX8_next_2 22 rfl rfl
theorem dksX8_next_4 : cX8_next.data.toList.drop 92 = dktX8_next_4 := dk_seg dksX8_next_3 23 rfl rfl
theorem dksX8_next_5 : cX8_next.data.toList.drop 114 = dktX8_next_5 := dk_seg dksX8_next_4 22 rfl rfl
theorem dksX8_next_6 : cX8_next.data.toList.drop 137 = dktX8_next_6 := dk_seg dksX8_next_5 23 rfl rfl
theorem dksX8_next_7 : cX8_next.data.toList.drop 160 = dktX8_next_7 := dk_seg dksX8_next_6 23 rfl rfl
theorem dksX8_next_8 : cX8_next.data.toList.drop 184 = dktX8_next_8 := dk_seg dksX8_next_7 24 rfl rfl
theorem dksX8_next_9 : cX8_next.data.toList.drop 207 = dktX8_next_9 := dk_seg dksX8_next_8 23 rfl rfl
theorem dksX8_next_10 : cX8_next.data.toList.drop 231 = dktX8_next_10 := dk_seg dksX8_next_9 24 rfl rfl
theorem dksX8_next_11 : cX8_next.data.toList.drop 253 = dktX8_next_11 := dk_seg dksX8_next_10 22 rfl rfl
theorem dX8_next_0 : decode cX8_next 0 = .ok (.aload_n 0, 1) := dk_42 (dk_at dksX8_next_0 0 rfl rfl)
theorem dX8_next_1 : decode cX8_next 1 = .ok (.getfield 12, 3) := dk_180 0 12 (dk_at dksX8_next_0 1 rfl rfl)
theorem dX8_next_4 : decode cX8_next 4 = .ok (.invokevirtual 80, 3) := dk_182 0 80 (dk_at dksX8_next_0 4 rfl rfl)
theorem dX8_next_7 : decode cX8_next 7 = .ok (.sipush 400, 3) := dk_17 1 144 (dk_at dksX8_next_0 7 rfl rfl)
theorem dX8_next_10 : decode cX8_next 10 = .ok (.if_icmp .ne 17, 3) := dk_160 0 17 (dk_at dksX8_next_0 10 rfl rfl)
theorem dX8_next_13 : decode cX8_next 13 = .ok (.new 54, 3) := dk_187 0 54 (dk_at dksX8_next_0 13 rfl rfl)
theorem dX8_next_16 : decode cX8_next 16 = .ok (.dup, 1) := dk_89 (dk_at dksX8_next_0 16 rfl rfl)
theorem dX8_next_17 : decode cX8_next 17 = .ok (.getstatic 59, 3) := dk_178 0 59 (dk_at dksX8_next_0 17 rfl rfl)
theorem dX8_next_20 : decode cX8_next 20 = .ok (.ldc 75, 2) := dk_18 75 (dk_at dksX8_next_0 20 rfl rfl)
theorem dX8_next_22 : decode cX8_next 22 = .ok (.iload_n 1, 1) := dk_27 (dk_at dksX8_next_0 22 rfl rfl)
theorem dX8_next_23 : decode cX8_next 23 = .ok (.invokespecial 77, 3) := dk_183 0 77 (dk_at dksX8_next_1 0 rfl rfl)
theorem dX8_next_26 : decode cX8_next 26 = .ok (.areturn, 1) := dk_176 (dk_at dksX8_next_1 3 rfl rfl)
theorem dX8_next_27 : decode cX8_next 27 = .ok (.aload_n 0, 1) := dk_42 (dk_at dksX8_next_1 4 rfl rfl)
theorem dX8_next_28 : decode cX8_next 28 = .ok (.getfield 18, 3) := dk_180 0 18 (dk_at dksX8_next_1 5 rfl rfl)
theorem dX8_next_31 : decode cX8_next 31 = .ok (.iload_n 1, 1) := dk_27 (dk_at dksX8_next_1 8 rfl rfl)
theorem dX8_next_32 : decode cX8_next 32 = .ok (.invokevirtual 38, 3) := dk_182 0 38 (dk_at dksX8_next_1 9 rfl rfl)
theorem dX8_next_35 : decode cX8_next 35 = .ok (.istore_n 2, 1) := dk_61 (dk_at dksX8_next_1 12 rfl rfl)
theorem dX8_next_36 : decode cX8_next 36 = .ok (.iload_n 1, 1) := dk_27 (dk_at dksX8_next_1 13 rfl rfl)
theorem dX8_next_37 : decode cX8_next 37 = .ok (.iconst 1, 1) := dk_4 (dk_at dksX8_next_1 14 rfl rfl)
theorem dX8_next_38 : decode cX8_next 38 = .ok (.iadd, 1) := dk_96 (dk_at dksX8_next_1 15 rfl rfl)
theorem dX8_next_39 : decode cX8_next 39 = .ok (.istore_n 3, 1) := dk_62 (dk_at dksX8_next_1 16 rfl rfl)
theorem dX8_next_40 : decode cX8_next 40 = .ok (.iload_n 2, 1) := dk_28 (dk_at dksX8_next_1 17 rfl rfl)
theorem dX8_next_41 : decode cX8_next 41 = .ok (.invokestatic 82, 3) := dk_184 0 82 (dk_at dksX8_next_1 18 rfl rfl)
theorem dX8_next_44 : decode cX8_next 44 = .ok (.ifCond .eq 92, 3) := dk_153 0 92 (dk_at dksX8_next_1 21 rfl rfl)
theorem dX8_next_47 : decode cX8_next 47 = .ok (.aload_n 0, 1) := dk_42 (dk_at dksX8_next_2 0 rfl rfl)
theorem dX8_next_48 : decode cX8_next 48 = .ok (.getfield 18, 3) := dk_180 0 18 (dk_at dksX8_next_2 1 rfl rfl)
theorem dX8_next_51 : decode cX8_next 51 = .ok (.iload_n 3, 1) := dk_29 (dk_at dksX8_next_2 4 rfl rfl)
theorem dX8_next_52 : decode cX8_next 52 = .ok (.invokevirtual 38, 3) := dk_182 0 38 (dk_at dksX8_next_2 5 rfl rfl)
theorem dX8_next_55 : decode cX8_next 55 = .ok (.invokestatic 82, 3) := dk_184 0 82 (dk_at dksX8_next_2 8 rfl rfl)
theorem dX8_next_58 : decode cX8_next 58 = .ok (.ifCond .ne 17, 3) := dk_154 0 17 (dk_at dksX8_next_2 11 rfl rfl)
theorem dX8_next_61 : decode cX8_next 61 = .ok (.aload_n 0, 1) := dk_42 (dk_at dksX8_next_2 14 rfl rfl)
theorem dX8_next_62 : decode cX8_next 62 = .ok (.getfield 18, 3) := dk_180 0 18 (dk_at dksX8_next_2 15 rfl rfl)
theorem dX8_next_65 : decode cX8_next 65 = .ok (.iload_n 3, 1) := dk_29 (dk_at dksX8_next_2 18 rfl rfl)
theorem dX8_next_66 : decode cX8_next 66 = .ok (.invokevirtual 38, 3) := dk_182 0 38 (dk_at dksX8_next_2 19 rfl rfl)
theorem dX8_next_69 : decode cX8_next 69 = .ok (.invokestatic 85, 3) := dk_184 0 85 (dk_at dksX8_next_3 0 rfl rfl)
theorem dX8_next_72 : decode cX8_next 72 = .ok (.ifCond .eq 9, 3) := dk_153 0 9 (dk_at dksX8_next_3 3 rfl rfl)
theorem dX8_next_75 : decode cX8_next 75 = .ok (.iinc 3 1, 3) := dk_132 3 1 (dk_at dksX8_next_3 6 rfl rfl)
theorem dX8_next_78 : decode cX8_next 78 = .ok (.goto (-31), 3) := dk_167 255 225 (dk_at dksX8_next_3 9 rfl rfl)
theorem dX8_next_81 : decode cX8_next 81 = .ok (.aload_n 0, 1) := dk_42 (dk_at dksX8_next_3 12 rfl rfl)
theorem dX8_next_82 : decode cX8_next 82 = .ok (.getfield 18, 3) := dk_180 0 18 (dk_at dksX8_next_3 13 rfl rfl)
theorem dX8_next_85 : decode cX8_next 85 = .ok (.iload_n 1, 1) := dk_27 (dk_at dksX8_next_3 16 rfl rfl)
theorem dX8_next_86 : decode cX8_next 86 = .ok (.iload_n 3, 1) := dk_29 (dk_at dksX8_next_3 17 rfl rfl)
theorem dX8_next_87 : decode cX8_next 87 = .ok (.invokevirtual 88, 3) := dk_182 0 88 (dk_at dksX8_next_3 18 rfl rfl)
theorem dX8_next_90 : decode cX8_next 90 = .ok (.astore 4, 2) := dk_58 4 (dk_at dksX8_next_3 21 rfl rfl)
theorem dX8_next_92 : decode cX8_next 92 = .ok (.new 54, 3) := dk_187 0 54 (dk_at dksX8_next_4 0 rfl rfl)
theorem dX8_next_95 : decode cX8_next 95 = .ok (.dup, 1) := dk_89 (dk_at dksX8_next_4 3 rfl rfl)
theorem dX8_next_96 : decode cX8_next 96 = .ok (.aload 4, 2) := dk_25 4 (dk_at dksX8_next_4 4 rfl rfl)
theorem dX8_next_98 : decode cX8_next 98 = .ok (.invokevirtual 68, 3) := dk_182 0 68 (dk_at dksX8_next_4 6 rfl rfl)
theorem dX8_next_101 : decode cX8_next 101 = .ok (.bipush 10, 2) := dk_16 10 (dk_at dksX8_next_4 9 rfl rfl)
theorem dX8_next_103 : decode cX8_next 103 = .ok (.if_icmp .le 9, 3) := dk_164 0 9 (dk_at dksX8_next_4 11 rfl rfl)
theorem dX8_next_106 : decode cX8_next 106 = .ok (.getstatic 59, 3) := dk_178 0 59 (dk_at dksX8_next_4 14 rfl rfl)
theorem dX8_next_109 : decode cX8_next 109 = .ok (.goto 20, 3) := dk_167 0 20 (dk_at dksX8_next_4 17 rfl rfl)
theorem dX8_next_112 : decode cX8_next 112 = .ok (.aload 4, 2) := dk_25 4 (dk_at dksX8_next_4 20 rfl rfl)
theorem dX8_next_114 : decode cX8_next 114 = .ok (.invokestatic 91, 3) := dk_184 0 91 (dk_at dksX8_next_5 0 rfl rfl)
theorem dX8_next_117 : decode cX8_next 117 = .ok (.ifCond .eq 9, 3) := dk_153 0 9 (dk_at dksX8_next_5 3 rfl rfl)
theorem dX8_next_120 : decode cX8_next 120 = .ok (.getstatic 95, 3) := dk_178 0 95 (dk_at dksX8_next_5 6 rfl rfl)
theorem dX8_next_123 : decode cX8_next 123 = .ok (.goto 6, 3) := dk_167 0 6 (dk_at dksX8_next_5 9 rfl rfl)
theorem dX8_next_126 : decode cX8_next 126 = .ok (.getstatic 98, 3) := dk_178 0 98 (dk_at dksX8_next_5 12 rfl rfl)
theorem dX8_next_129 : decode cX8_next 129 = .ok (.aload 4, 2) := dk_25 4 (dk_at dksX8_next_5 15 rfl rfl)
theorem dX8_next_131 : decode cX8_next 131 = .ok (.iload_n 1, 1) := dk_27 (dk_at dksX8_next_5 17 rfl rfl)
theorem dX8_next_132 : decode cX8_next 132 = .ok (.invokespecial 77, 3) := dk_183 0 77 (dk_at dksX8_next_5 18 rfl rfl)
theorem dX8_next_135 : decode cX8_next 135 = .ok (.areturn, 1) := dk_176 (dk_at dksX8_next_5 21 rfl rfl)
theorem dX8_next_136 : decode cX8_next 136 = .ok (.iload_n 2, 1) := dk_28 (dk_at dksX8_next_5 22 rfl rfl)
theorem dX8_next_137 : decode cX8_next 137 = .ok (.invokestatic 85, 3) := dk_184 0 85 (dk_at dksX8_next_6 0 rfl rfl)
theorem dX8_next_140 : decode cX8_next 140 = .ok (.ifCond .eq 58, 3) := dk_153 0 58 (dk_at dksX8_next_6 3 rfl rfl)
theorem dX8_next_143 : decode cX8_next 143 = .ok (.aload_n 0, 1) := dk_42 (dk_at dksX8_next_6 6 rfl rfl)
theorem dX8_next_144 : decode cX8_next 144 = .ok (.getfield 18, 3) := dk_180 0 18 (dk_at dksX8_next_6 7 rfl rfl)
theorem dX8_next_147 : decode cX8_next 147 = .ok (.iload_n 3, 1) := dk_29 (dk_at dksX8_next_6 10 rfl rfl)
theorem dX8_next_148 : decode cX8_next 148 = .ok (.invokevirtual 38, 3) := dk_182 0 38 (dk_at dksX8_next_6 11 rfl rfl)
theorem dX8_next_151 : decode cX8_next 151 = .ok (.invokestatic 85, 3) := dk_184 0 85 (dk_at dksX8_next_6 14 rfl rfl)
theorem dX8_next_154 : decode cX8_next 154 = .ok (.ifCond .eq 9, 3) := dk_153 0 9 (dk_at dksX8_next_6 17 rfl rfl)
theorem dX8_next_157 : decode cX8_next 157 = .ok (.iinc 3 1, 3) := dk_132 3 1 (dk_at dksX8_next_6 20 rfl rfl)
theorem dX8_next_160 : decode cX8_next 160 = .ok (.goto (-17), 3) := dk_167 255 239 (dk_at dksX8_next_7 0 rfl rfl)
theorem dX8_next_163 : decode cX8_next 163 = .ok (.new 54, 3) := dk_187 0 54 (dk_at dksX8_next_7 3 rfl rfl)
theorem dX8_next_166 : decode cX8_next 166 = .ok (.dup, 1) := dk_89 (dk_at dksX8_next_7 6 rfl rfl)
theorem dX8_next_167 : decode cX8_next 167 = .ok (.iload_n 3, 1) := dk_29 (dk_at dksX8_next_7 7 rfl rfl)
theorem dX8_next_168 : decode cX8_next 168 = .ok (.iload_n 1, 1) := dk_27 (dk_at dksX8_next_7 8 rfl rfl)
theorem dX8_next_169 : decode cX8_next 169 = .ok (.isub, 1) := dk_100 (dk_at dksX8_next_7 9 rfl rfl)
theorem dX8_next_170 : decode cX8_next 170 = .ok (.bipush 6, 2) := dk_16 6 (dk_at dksX8_next_7 10 rfl rfl)
theorem dX8_next_172 : decode cX8_next 172 = .ok (.if_icmp .le 9, 3) := dk_164 0 9 (dk_at dksX8_next_7 12 rfl rfl)
theorem dX8_next_175 : decode cX8_next 175 = .ok (.getstatic 59, 3) := dk_178 0 59 (dk_at dksX8_next_7 15 rfl rfl)
theorem dX8_next_178 : decode cX8_next 178 = .ok (.goto 6, 3) := dk_167 0 6 (dk_at dksX8_next_7 18 rfl rfl)
theorem dX8_next_181 : decode cX8_next 181 = .ok (.getstatic 101, 3) := dk_178 0 101 (dk_at dksX8_next_7 21 rfl rfl)
theorem dX8_next_184 : decode cX8_next 184 = .ok (.aload_n 0, 1) := dk_42 (dk_at dksX8_next_8 0 rfl rfl)
theorem dX8_next_185 : decode cX8_next 185 = .ok (.getfield 18, 3) := dk_180 0 18 (dk_at dksX8_next_8 1 rfl rfl)
theorem dX8_next_188 : decode cX8_next 188 = .ok (.iload_n 1, 1) := dk_27 (dk_at dksX8_next_8 4 rfl rfl)
theorem dX8_next_189 : decode cX8_next 189 = .ok (.iload_n 3, 1) := dk_29 (dk_at dksX8_next_8 5 rfl rfl)
theorem dX8_next_190 : decode cX8_next 190 = .ok (.invokevirtual 88, 3) := dk_182 0 88 (dk_at dksX8_next_8 6 rfl rfl)
theorem dX8_next_193 : decode cX8_next 193 = .ok (.iload_n 1, 1) := dk_27 (dk_at dksX8_next_8 9 rfl rfl)
theorem dX8_next_194 : decode cX8_next 194 = .ok (.invokespecial 77, 3) := dk_183 0 77 (dk_at dksX8_next_8 10 rfl rfl)
theorem dX8_next_197 : decode cX8_next 197 = .ok (.areturn, 1) := dk_176 (dk_at dksX8_next_8 13 rfl rfl)
theorem dX8_next_198 : decode cX8_next 198 = .ok (.iload_n 2, 1) := dk_28 (dk_at dksX8_next_8 14 rfl rfl)
theorem dX8_next_199 : decode cX8_next 199 = .ok (.bipush 60, 2) := dk_16 60 (dk_at dksX8_next_8 15 rfl rfl)
theorem dX8_next_201 : decode cX8_next 201 = .ok (.if_icmp .eq 9, 3) := dk_159 0 9 (dk_at dksX8_next_8 17 rfl rfl)
theorem dX8_next_204 : decode cX8_next 204 = .ok (.iload_n 2, 1) := dk_28 (dk_at dksX8_next_8 20 rfl rfl)
theorem dX8_next_205 : decode cX8_next 205 = .ok (.bipush 62, 2) := dk_16 62 (dk_at dksX8_next_8 21 rfl rfl)
theorem dX8_next_207 : decode cX8_next 207 = .ok (.if_icmp .ne 19, 3) := dk_160 0 19 (dk_at dksX8_next_9 0 rfl rfl)
theorem dX8_next_210 : decode cX8_next 210 = .ok (.aload_n 0, 1) := dk_42 (dk_at dksX8_next_9 3 rfl rfl)
theorem dX8_next_211 : decode cX8_next 211 = .ok (.getfield 18, 3) := dk_180 0 18 (dk_at dksX8_next_9 4 rfl rfl)
theorem dX8_next_214 : decode cX8_next 214 = .ok (.iload_n 3, 1) := dk_29 (dk_at dksX8_next_9 7 rfl rfl)
theorem dX8_next_215 : decode cX8_next 215 = .ok (.invokevirtual 38, 3) := dk_182 0 38 (dk_at dksX8_next_9 8 rfl rfl)
theorem dX8_next_218 : decode cX8_next 218 = .ok (.bipush 61, 2) := dk_16 61 (dk_at dksX8_next_9 11 rfl rfl)
theorem dX8_next_220 : decode cX8_next 220 = .ok (.if_icmp .ne 6, 3) := dk_160 0 6 (dk_at dksX8_next_9 13 rfl rfl)
theorem dX8_next_223 : decode cX8_next 223 = .ok (.iinc 3 1, 3) := dk_132 3 1 (dk_at dksX8_next_9 16 rfl rfl)
theorem dX8_next_226 : decode cX8_next 226 = .ok (.new 54, 3) := dk_187 0 54 (dk_at dksX8_next_9 19 rfl rfl)
theorem dX8_next_229 : decode cX8_next 229 = .ok (.dup, 1) := dk_89 (dk_at dksX8_next_9 22 rfl rfl)
theorem dX8_next_230 : decode cX8_next 230 = .ok (.iload_n 2, 1) := dk_28 (dk_at dksX8_next_9 23 rfl rfl)
theorem dX8_next_231 : decode cX8_next 231 = .ok (.ifCond .le 18, 3) := dk_158 0 18 (dk_at dksX8_next_10 0 rfl rfl)
theorem dX8_next_234 : decode cX8_next 234 = .ok (.ldc 104, 2) := dk_18 104 (dk_at dksX8_next_10 3 rfl rfl)
theorem dX8_next_236 : decode cX8_next 236 = .ok (.iload_n 2, 1) := dk_28 (dk_at dksX8_next_10 5 rfl rfl)
theorem dX8_next_237 : decode cX8_next 237 = .ok (.invokevirtual 106, 3) := dk_182 0 106 (dk_at dksX8_next_10 6 rfl rfl)
theorem dX8_next_240 : decode cX8_next 240 = .ok (.ifCond .lt 9, 3) := dk_155 0 9 (dk_at dksX8_next_10 9 rfl rfl)
theorem dX8_next_243 : decode cX8_next 243 = .ok (.getstatic 109, 3) := dk_178 0 109 (dk_at dksX8_next_10 12 rfl rfl)
theorem dX8_next_246 : decode cX8_next 246 = .ok (.goto 6, 3) := dk_167 0 6 (dk_at dksX8_next_10 15 rfl rfl)
theorem dX8_next_249 : decode cX8_next 249 = .ok (.getstatic 59, 3) := dk_178 0 59 (dk_at dksX8_next_10 18 rfl rfl)
theorem dX8_next_252 : decode cX8_next 252 = .ok (.aload_n 0, 1) := dk_42 (dk_at dksX8_next_10 21 rfl rfl)
theorem dX8_next_253 : decode cX8_next 253 = .ok (.getfield 18, 3) := dk_180 0 18 (dk_at dksX8_next_11 0 rfl rfl)
theorem dX8_next_256 : decode cX8_next 256 = .ok (.iload_n 1, 1) := dk_27 (dk_at dksX8_next_11 3 rfl rfl)
theorem dX8_next_257 : decode cX8_next 257 = .ok (.iload_n 3, 1) := dk_29 (dk_at dksX8_next_11 4 rfl rfl)
theorem dX8_next_258 : decode cX8_next 258 = .ok (.invokevirtual 88, 3) := dk_182 0 88 (dk_at dksX8_next_11 5 rfl rfl)
theorem dX8_next_261 : decode cX8_next 261 = .ok (.iload_n 1, 1) := dk_27 (dk_at dksX8_next_11 8 rfl rfl)
theorem dX8_next_262 : decode cX8_next 262 = .ok (.invokespecial 77, 3) := dk_183 0 77 (dk_at dksX8_next_11 9 rfl rfl)
theorem dX8_next_265 : decode cX8_next 265 = .ok (.areturn, 1) := dk_176 (dk_at dksX8_next_11 12 rfl rfl)
abbrev cX8_isLetter : ByteArray := prog_18_method_2_code
def yX8_isLetter : MethodName := ⟨RX8, "isLetter", "(I)Z"⟩
def dkwX8_isLetter_0 : List UInt8 := [26, 16, 97, 161, 0, 13, 26, 16, 122, 163, 0, 7, 4, 167, 0, 4, 3, 172]
abbrev dktX8_isLetter_0 : List UInt8 := dkwX8_isLetter_0 ++ []
theorem dksX8_isLetter_0 : cX8_isLetter.data.toList.drop 0 = dktX8_isLetter_0 := by decide +kernel
theorem dX8_isLetter_0 : decode cX8_isLetter 0 = .ok (.iload_n 0, 1) := dk_26 (dk_at dksX8_isLetter_0 0 rfl rfl)
theorem dX8_isLetter_1 : decode cX8_isLetter 1 = .ok (.bipush 97, 2) := dk_16 97 (dk_at dksX8_isLetter_0 1 rfl rfl)
theorem dX8_isLetter_3 : decode cX8_isLetter 3 = .ok (.if_icmp .lt 13, 3) := dk_161 0 13 (dk_at dksX8_isLetter_0 3 rfl rfl)
theorem dX8_isLetter_6 : decode cX8_isLetter 6 = .ok (.iload_n 0, 1) := dk_26 (dk_at dksX8_isLetter_0 6 rfl rfl)
theorem dX8_isLetter_7 : decode cX8_isLetter 7 = .ok (.bipush 122, 2) := dk_16 122 (dk_at dksX8_isLetter_0 7 rfl rfl)
theorem dX8_isLetter_9 : decode cX8_isLetter 9 = .ok (.if_icmp .gt 7, 3) := dk_163 0 7 (dk_at dksX8_isLetter_0 9 rfl rfl)
theorem dX8_isLetter_12 : decode cX8_isLetter 12 = .ok (.iconst 1, 1) := dk_4 (dk_at dksX8_isLetter_0 12 rfl rfl)
theorem dX8_isLetter_13 : decode cX8_isLetter 13 = .ok (.goto 4, 3) := dk_167 0 4 (dk_at dksX8_isLetter_0 13 rfl rfl)
theorem dX8_isLetter_16 : decode cX8_isLetter 16 = .ok (.iconst 0, 1) := dk_3 (dk_at dksX8_isLetter_0 16 rfl rfl)
theorem dX8_isLetter_17 : decode cX8_isLetter 17 = .ok (.ireturn, 1) := dk_172 (dk_at dksX8_isLetter_0 17 rfl rfl)
abbrev cX8_isDigit : ByteArray := prog_18_method_3_code
def yX8_isDigit : MethodName := ⟨RX8, "isDigit", "(I)Z"⟩
def dkwX8_isDigit_0 : List UInt8 := [26, 16, 48, 161, 0, 13, 26, 16, 57, 163, 0, 7, 4, 167, 0, 4, 3, 172]
abbrev dktX8_isDigit_0 : List UInt8 := dkwX8_isDigit_0 ++ []
theorem dksX8_isDigit_0 : cX8_isDigit.data.toList.drop 0 = dktX8_isDigit_0 := by decide +kernel
theorem dX8_isDigit_0 : decode cX8_isDigit 0 = .ok (.iload_n 0, 1) := dk_26 (dk_at dksX8_isDigit_0 0 rfl rfl)
theorem dX8_isDigit_1 : decode cX8_isDigit 1 = .ok (.bipush 48, 2) := dk_16 48 (dk_at dksX8_isDigit_0 1 rfl rfl)
theorem dX8_isDigit_3 : decode cX8_isDigit 3 = .ok (.if_icmp .lt 13, 3) := dk_161 0 13 (dk_at dksX8_isDigit_0 3 rfl rfl)
theorem dX8_isDigit_6 : decode cX8_isDigit 6 = .ok (.iload_n 0, 1) := dk_26 (dk_at dksX8_isDigit_0 6 rfl rfl)
theorem dX8_isDigit_7 : decode cX8_isDigit 7 = .ok (.bipush 57, 2) := dk_16 57 (dk_at dksX8_isDigit_0 7 rfl rfl)
theorem dX8_isDigit_9 : decode cX8_isDigit 9 = .ok (.if_icmp .gt 7, 3) := dk_163 0 7 (dk_at dksX8_isDigit_0 9 rfl rfl)
theorem dX8_isDigit_12 : decode cX8_isDigit 12 = .ok (.iconst 1, 1) := dk_4 (dk_at dksX8_isDigit_0 12 rfl rfl)
theorem dX8_isDigit_13 : decode cX8_isDigit 13 = .ok (.goto 4, 3) := dk_167 0 4 (dk_at dksX8_isDigit_0 13 rfl rfl)
theorem dX8_isDigit_16 : decode cX8_isDigit 16 = .ok (.iconst 0, 1) := dk_3 (dk_at dksX8_isDigit_0 16 rfl rfl)
theorem dX8_isDigit_17 : decode cX8_isDigit 17 = .ok (.ireturn, 1) := dk_172 (dk_at dksX8_isDigit_0 17 rfl rfl)
abbrev cX8_isKey : ByteArray := prog_18_method_5_code
def yX8_isKey : MethodName := ⟨RX8, "isKey", "(Ljava/lang/String;)Z"⟩
def dkwX8_isKey_1 : List UInt8 := [182, 0, 26, 153, 0, 5, 4, 172, 132, 3, 1, 167, 255, 232, 3, 172]
abbrev dktX8_isKey_1 : List UInt8 := dkwX8_isKey_1 ++ []
def dkwX8_isKey_0 : List UInt8 := [178, 0, 22, 76, 43, 190, 61, 3, 62, 29, 28, 162, 0, 25, 43, 29, 50, 58, 4, 25, 4, 42]
abbrev dktX8_isKey_0 : List UInt8 := dkwX8_isKey_0 ++ dktX8_isKey_1
theorem dksX8_isKey_0 : cX8_isKey.data.toList.drop 0 = dktX8_isKey_0 := by decide +kernel
theorem dksX8_isKey_1 : cX8_isKey.data.toList.drop 22 = dktX8_isKey_1 := dk_seg dksX8_isKey_0 22 rfl rfl
theorem dX8_isKey_0 : decode cX8_isKey 0 = .ok (.getstatic 22, 3) := dk_178 0 22 (dk_at dksX8_isKey_0 0 rfl rfl)
theorem dX8_isKey_3 : decode cX8_isKey 3 = .ok (.astore_n 1, 1) := dk_76 (dk_at dksX8_isKey_0 3 rfl rfl)
theorem dX8_isKey_4 : decode cX8_isKey 4 = .ok (.aload_n 1, 1) := dk_43 (dk_at dksX8_isKey_0 4 rfl rfl)
theorem dX8_isKey_5 : decode cX8_isKey 5 = .ok (.arraylength, 1) := dk_190 (dk_at dksX8_isKey_0 5 rfl rfl)
theorem dX8_isKey_6 : decode cX8_isKey 6 = .ok (.istore_n 2, 1) := dk_61 (dk_at dksX8_isKey_0 6 rfl rfl)
theorem dX8_isKey_7 : decode cX8_isKey 7 = .ok (.iconst 0, 1) := dk_3 (dk_at dksX8_isKey_0 7 rfl rfl)
theorem dX8_isKey_8 : decode cX8_isKey 8 = .ok (.istore_n 3, 1) := dk_62 (dk_at dksX8_isKey_0 8 rfl rfl)
theorem dX8_isKey_9 : decode cX8_isKey 9 = .ok (.iload_n 3, 1) := dk_29 (dk_at dksX8_isKey_0 9 rfl rfl)
theorem dX8_isKey_10 : decode cX8_isKey 10 = .ok (.iload_n 2, 1) := dk_28 (dk_at dksX8_isKey_0 10 rfl rfl)
theorem dX8_isKey_11 : decode cX8_isKey 11 = .ok (.if_icmp .ge 25, 3) := dk_162 0 25 (dk_at dksX8_isKey_0 11 rfl rfl)
theorem dX8_isKey_14 : decode cX8_isKey 14 = .ok (.aload_n 1, 1) := dk_43 (dk_at dksX8_isKey_0 14 rfl rfl)
theorem dX8_isKey_15 : decode cX8_isKey 15 = .ok (.iload_n 3, 1) := dk_29 (dk_at dksX8_isKey_0 15 rfl rfl)
theorem dX8_isKey_16 : decode cX8_isKey 16 = .ok (.aaload, 1) := dk_50 (dk_at dksX8_isKey_0 16 rfl rfl)
theorem dX8_isKey_17 : decode cX8_isKey 17 = .ok (.astore 4, 2) := dk_58 4 (dk_at dksX8_isKey_0 17 rfl rfl)
theorem dX8_isKey_19 : decode cX8_isKey 19 = .ok (.aload 4, 2) := dk_25 4 (dk_at dksX8_isKey_0 19 rfl rfl)
theorem dX8_isKey_21 : decode cX8_isKey 21 = .ok (.aload_n 0, 1) := dk_42 (dk_at dksX8_isKey_0 21 rfl rfl)
theorem dX8_isKey_22 : decode cX8_isKey 22 = .ok (.invokevirtual 26, 3) := dk_182 0 26 (dk_at dksX8_isKey_1 0 rfl rfl)
theorem dX8_isKey_25 : decode cX8_isKey 25 = .ok (.ifCond .eq 5, 3) := dk_153 0 5 (dk_at dksX8_isKey_1 3 rfl rfl)
theorem dX8_isKey_28 : decode cX8_isKey 28 = .ok (.iconst 1, 1) := dk_4 (dk_at dksX8_isKey_1 6 rfl rfl)
theorem dX8_isKey_29 : decode cX8_isKey 29 = .ok (.ireturn, 1) := dk_172 (dk_at dksX8_isKey_1 7 rfl rfl)
theorem dX8_isKey_30 : decode cX8_isKey 30 = .ok (.iinc 3 1, 3) := dk_132 3 1 (dk_at dksX8_isKey_1 8 rfl rfl)
theorem dX8_isKey_33 : decode cX8_isKey 33 = .ok (.goto (-24), 3) := dk_167 255 232 (dk_at dksX8_isKey_1 11 rfl rfl)
theorem dX8_isKey_36 : decode cX8_isKey 36 = .ok (.iconst 0, 1) := dk_3 (dk_at dksX8_isKey_1 14 rfl rfl)
theorem dX8_isKey_37 : decode cX8_isKey 37 = .ok (.ireturn, 1) := dk_172 (dk_at dksX8_isKey_1 15 rfl rfl)
theorem q115 : (Jvm.Cond.initialized "RingDomino$Scanner") ∈ lw_all := lw_g (lw_at lw_m1 16 rfl) rfl
theorem q182 : (Jvm.Cond.fieldLinkNest "RingDomino$Scanner" (32 : Nat) "RingDomino$Tape" "size" "I" "RingDomino") ∈ lw_tbl := lw_at lw_m1 83 rfl
theorem q289 : (Jvm.Cond.instantiable "RingDomino$Scanner" (2 : Nat)) ∈ lw_all := lw_g (lw_at lw_m1 190 rfl) rfl
theorem q291 : (Jvm.Cond.instanceMethod ({ cls := "RingDomino$Scanner", name := "<init>", desc := "(LRingDomino$Tape;)V" } : Jvm.MethodName)) ∈ lw_all := lw_g (lw_at lw_m1 192 rfl) rfl
theorem q292 : (Jvm.Cond.code ({ cls := "RingDomino$Scanner", name := "<init>", desc := "(LRingDomino$Tape;)V" } : Jvm.MethodName) prog_18_method_1_code (2 : Nat) (Option.none : Option Jvm.ClassFile.FieldType)) ∈ lw_all := lw_g (lw_at lw_m1 193 rfl) rfl
theorem q293 : (Jvm.Cond.methodLink "RingDomino$Scanner" (3 : Nat) ({ cls := "java/lang/Object", name := "<init>", desc := "()V" } : Jvm.MethodName)) ∈ lw_all := lw_g (lw_at lw_m1 194 rfl) rfl
theorem q294 : (Jvm.Cond.classLink "RingDomino$Scanner" (9 : Nat) "java/util/ArrayList") ∈ lw_all := lw_g (lw_at lw_m1 195 rfl) rfl
theorem q295 : (Jvm.Cond.methodLink "RingDomino$Scanner" (11 : Nat) ({ cls := "java/util/ArrayList", name := "<init>", desc := "()V" } : Jvm.MethodName)) ∈ lw_all := lw_g (lw_at lw_m1 196 rfl) rfl
theorem q296 : (Jvm.Cond.fieldLink "RingDomino$Scanner" (18 : Nat) "RingDomino$Scanner" "tape" "LRingDomino$Tape;") ∈ lw_all := lw_g (lw_at lw_m1 197 rfl) rfl
theorem q297 : (Jvm.Cond.fieldLink "RingDomino$Scanner" (12 : Nat) "RingDomino$Scanner" "tokens" "Ljava/util/ArrayList;") ∈ lw_all := lw_g (lw_at lw_m1 198 rfl) rfl
theorem q298 : (Jvm.Cond.laysFinal "RingDomino$Scanner" "RingDomino$Scanner" "tape" "LRingDomino$Tape;") ∈ lw_all := lw_g (lw_at lw_m1 199 rfl) rfl
theorem q299 : (Jvm.Cond.soleField "RingDomino$Scanner" "tape") ∈ lw_all := lw_g (lw_at lw_m1 200 rfl) rfl
theorem q300 : (Jvm.Cond.laysFinal "RingDomino$Scanner" "RingDomino$Scanner" "tokens" "Ljava/util/ArrayList;") ∈ lw_all := lw_g (lw_at lw_m1 201 rfl) rfl
theorem q301 : (Jvm.Cond.soleField "RingDomino$Scanner" "tokens") ∈ lw_all := lw_g (lw_at lw_m1 202 rfl) rfl
theorem q302 : (Jvm.Cond.superclass "RingDomino$Scanner" "java/lang/Object") ∈ lw_all := lw_g (lw_at lw_m1 203 rfl) rfl
theorem q304 : (Jvm.Cond.instanceMethod ({ cls := "RingDomino$Scanner", name := "all", desc := "()Ljava/util/List;" } : Jvm.MethodName)) ∈ lw_all := lw_g (lw_at lw_m1 205 rfl) rfl
theorem q305 : (Jvm.Cond.selects "RingDomino$Scanner" ({ cls := "RingDomino$Scanner", name := "all", desc := "()Ljava/util/List;" } : Jvm.MethodName) ({ cls := "RingDomino$Scanner", name := "all", desc := "()Ljava/util/List;" } : Jvm.MethodName)) ∈ lw_all := lw_g (lw_at lw_m1 206 rfl) rfl
theorem q306 : (Jvm.Cond.code ({ cls := "RingDomino$Scanner", name := "all", desc := "()Ljava/util/List;" } : Jvm.MethodName) prog_18_method_6_code (3 : Nat) (Option.some (Jvm.ClassFile.FieldType.object "java/util/List"))) ∈ lw_all := lw_g (lw_at lw_m1 207 rfl) rfl
theorem q307 : (Jvm.Cond.methodLink "RingDomino$Scanner" (38 : Nat) ({ cls := "RingDomino$Tape", name := "at", desc := "(I)I" } : Jvm.MethodName)) ∈ lw_all := lw_g (lw_at lw_m1 208 rfl) rfl
theorem q311 : (Jvm.Cond.methodLink "RingDomino$Scanner" (42 : Nat) ({ cls := "RingDomino$Scanner", name := "isBlank", desc := "(I)Z" } : Jvm.MethodName)) ∈ lw_all := lw_g (lw_at lw_m1 212 rfl) rfl
theorem q312 : (Jvm.Cond.static ({ cls := "RingDomino$Scanner", name := "isBlank", desc := "(I)Z" } : Jvm.MethodName)) ∈ lw_all := lw_g (lw_at lw_m1 213 rfl) rfl
theorem q313 : (Jvm.Cond.code ({ cls := "RingDomino$Scanner", name := "isBlank", desc := "(I)Z" } : Jvm.MethodName) prog_18_method_4_code (1 : Nat) (Option.some Jvm.ClassFile.FieldType.boolean)) ∈ lw_all := lw_g (lw_at lw_m1 214 rfl) rfl
theorem q314 : (Jvm.Cond.methodLink "RingDomino$Scanner" (46 : Nat) ({ cls := "RingDomino$Scanner", name := "next", desc := "(I)LRingDomino$Token;" } : Jvm.MethodName)) ∈ lw_all := lw_g (lw_at lw_m1 215 rfl) rfl
theorem q315 : (Jvm.Cond.privateMethod ({ cls := "RingDomino$Scanner", name := "next", desc := "(I)LRingDomino$Token;" } : Jvm.MethodName)) ∈ lw_tbl := lw_at lw_m1 216 rfl
theorem q316 : (Jvm.Cond.instanceMethod ({ cls := "RingDomino$Scanner", name := "next", desc := "(I)LRingDomino$Token;" } : Jvm.MethodName)) ∈ lw_all := lw_g (lw_at lw_m1 217 rfl) rfl
theorem q317 : (Jvm.Cond.code ({ cls := "RingDomino$Scanner", name := "next", desc := "(I)LRingDomino$Token;" } : Jvm.MethodName) prog_18_method_7_code (5 : Nat) (Option.some (Jvm.ClassFile.FieldType.object "RingDomino$Token"))) ∈ lw_all := lw_g (lw_at lw_m1 218 rfl) rfl
theorem q318 : (Jvm.Cond.methodLink "RingDomino$Scanner" (80 : Nat) ({ cls := "java/util/ArrayList", name := "size", desc := "()I" } : Jvm.MethodName)) ∈ lw_all := lw_g (lw_at lw_m1 219 rfl) rfl
theorem q322 : (Jvm.Cond.classLink "RingDomino$Scanner" (54 : Nat) "RingDomino$Token") ∈ lw_all := lw_g (lw_at lw_m1 223 rfl) rfl
theorem q324 : (Jvm.Cond.fieldLink "RingDomino$Scanner" (59 : Nat) "RingDomino$Sort" "BAD" "LRingDomino$Sort;") ∈ lw_all := lw_g (lw_at lw_m1 225 rfl) rfl
theorem q326 : (Jvm.Cond.stringRef "RingDomino$Scanner" (75 : Nat) "") ∈ lw_tbl := lw_at lw_m1 227 rfl
theorem q327 : (Jvm.Cond.methodLink "RingDomino$Scanner" (77 : Nat) ({ cls := "RingDomino$Token", name := "<init>", desc := "(LRingDomino$Sort;Ljava/lang/String;I)V" } : Jvm.MethodName)) ∈ lw_all := lw_g (lw_at lw_m1 228 rfl) rfl
theorem q333 : (Jvm.Cond.fieldLinkNest "RingDomino$Scanner" (53 : Nat) "RingDomino$Token" "sort" "LRingDomino$Sort;" "RingDomino") ∈ lw_tbl := lw_at lw_m1 234 rfl
theorem q335 : (Jvm.Cond.fieldLinkNest "RingDomino$Scanner" (64 : Nat) "RingDomino$Token" "text" "Ljava/lang/String;" "RingDomino") ∈ lw_tbl := lw_at lw_m1 236 rfl
theorem q346 : (Jvm.Cond.methodLink "RingDomino$Scanner" (82 : Nat) ({ cls := "RingDomino$Scanner", name := "isLetter", desc := "(I)Z" } : Jvm.MethodName)) ∈ lw_all := lw_g (lw_at lw_m2 7 rfl) rfl
theorem q347 : (Jvm.Cond.static ({ cls := "RingDomino$Scanner", name := "isLetter", desc := "(I)Z" } : Jvm.MethodName)) ∈ lw_all := lw_g (lw_at lw_m2 8 rfl) rfl
theorem q348 : (Jvm.Cond.code ({ cls := "RingDomino$Scanner", name := "isLetter", desc := "(I)Z" } : Jvm.MethodName) prog_18_method_2_code (1 : Nat) (Option.some Jvm.ClassFile.FieldType.boolean)) ∈ lw_all := lw_g (lw_at lw_m2 9 rfl) rfl
theorem q349 : (Jvm.Cond.methodLink "RingDomino$Scanner" (85 : Nat) ({ cls := "RingDomino$Scanner", name := "isDigit", desc := "(I)Z" } : Jvm.MethodName)) ∈ lw_all := lw_g (lw_at lw_m2 10 rfl) rfl
theorem q350 : (Jvm.Cond.static ({ cls := "RingDomino$Scanner", name := "isDigit", desc := "(I)Z" } : Jvm.MethodName)) ∈ lw_all := lw_g (lw_at lw_m2 11 rfl) rfl
theorem q351 : (Jvm.Cond.code ({ cls := "RingDomino$Scanner", name := "isDigit", desc := "(I)Z" } : Jvm.MethodName) prog_18_method_3_code (1 : Nat) (Option.some Jvm.ClassFile.FieldType.boolean)) ∈ lw_all := lw_g (lw_at lw_m2 12 rfl) rfl
theorem q352 : (Jvm.Cond.methodLink "RingDomino$Scanner" (88 : Nat) ({ cls := "RingDomino$Tape", name := "text", desc := "(II)Ljava/lang/String;" } : Jvm.MethodName)) ∈ lw_all := lw_g (lw_at lw_m2 13 rfl) rfl
theorem q689 : (Jvm.Cond.methodLink "RingDomino$Scanner" (68 : Nat) ({ cls := "java/lang/String", name := "length", desc := "()I" } : Jvm.MethodName)) ∈ lw_all := lw_g (lw_at lw_m3 110 rfl) rfl
theorem q690 : (Jvm.Cond.methodLink "RingDomino$Scanner" (91 : Nat) ({ cls := "RingDomino$Scanner", name := "isKey", desc := "(Ljava/lang/String;)Z" } : Jvm.MethodName)) ∈ lw_all := lw_g (lw_at lw_m3 111 rfl) rfl
theorem q691 : (Jvm.Cond.static ({ cls := "RingDomino$Scanner", name := "isKey", desc := "(Ljava/lang/String;)Z" } : Jvm.MethodName)) ∈ lw_all := lw_g (lw_at lw_m3 112 rfl) rfl
theorem q692 : (Jvm.Cond.code ({ cls := "RingDomino$Scanner", name := "isKey", desc := "(Ljava/lang/String;)Z" } : Jvm.MethodName) prog_18_method_5_code (5 : Nat) (Option.some Jvm.ClassFile.FieldType.boolean)) ∈ lw_all := lw_g (lw_at lw_m3 113 rfl) rfl
theorem q693 : (Jvm.Cond.fieldLink "RingDomino$Scanner" (22 : Nat) "RingDomino$Scanner" "KEYS" "[Ljava/lang/String;") ∈ lw_all := lw_g (lw_at lw_m3 114 rfl) rfl
theorem q694 : (Jvm.Cond.laysStatic "RingDomino$Scanner" "KEYS" "[Ljava/lang/String;") ∈ lw_tbl := lw_at lw_m3 115 rfl
theorem q695 : (Jvm.Cond.methodLink "RingDomino$Scanner" (26 : Nat) ({ cls := "java/lang/String", name := "equals", desc := "(Ljava/lang/Object;)Z" } : Jvm.MethodName)) ∈ lw_all := lw_g (lw_at lw_m3 116 rfl) rfl
theorem q703 : (Jvm.Cond.fieldLink "RingDomino$Scanner" (95 : Nat) "RingDomino$Sort" "KEY" "LRingDomino$Sort;") ∈ lw_all := lw_g (lw_at lw_m3 124 rfl) rfl
theorem q705 : (Jvm.Cond.fieldLink "RingDomino$Scanner" (98 : Nat) "RingDomino$Sort" "NAME" "LRingDomino$Sort;") ∈ lw_all := lw_g (lw_at lw_m3 126 rfl) rfl
theorem q707 : (Jvm.Cond.fieldLink "RingDomino$Scanner" (101 : Nat) "RingDomino$Sort" "NUMBER" "LRingDomino$Sort;") ∈ lw_all := lw_g (lw_at lw_m3 128 rfl) rfl
theorem q709 : (Jvm.Cond.stringRef "RingDomino$Scanner" (104 : Nat) "()[];,+-*/<>=") ∈ lw_tbl := lw_at lw_m3 130 rfl
theorem q710 : (Jvm.Cond.methodLink "RingDomino$Scanner" (106 : Nat) ({ cls := "java/lang/String", name := "indexOf", desc := "(I)I" } : Jvm.MethodName)) ∈ lw_all := lw_g (lw_at lw_m3 131 rfl) rfl
theorem q760 : (Jvm.Cond.fieldLink "RingDomino$Scanner" (109 : Nat) "RingDomino$Sort" "SYMBOL" "LRingDomino$Sort;") ∈ lw_all := lw_g (lw_at lw_m3 181 rfl) rfl
theorem q762 : (Jvm.Cond.methodLink "RingDomino$Scanner" (50 : Nat) ({ cls := "java/util/ArrayList", name := "add", desc := "(Ljava/lang/Object;)Z" } : Jvm.MethodName)) ∈ lw_all := lw_g (lw_at lw_m3 183 rfl) rfl
theorem q801 : (Jvm.Cond.selects "RingDomino$Scanner" ({ cls := "java/lang/Object", name := "getClass", desc := "()Ljava/lang/Class;" } : Jvm.MethodName) ({ cls := "java/lang/Object", name := "getClass", desc := "()Ljava/lang/Class;" } : Jvm.MethodName)) ∈ lw_all := lw_g (lw_at lw_m3 222 rfl) rfl
theorem q850 : (Jvm.Cond.fieldLink "RingDomino$Scanner" (72 : Nat) "RingDomino$Sort" "END" "LRingDomino$Sort;") ∈ lw_all := lw_g (lw_at lw_m4 31 rfl) rfl
theorem q1064 : (Jvm.Cond.selects "RingDomino$Scanner" ({ cls := "java/lang/Object", name := "hashCode", desc := "()I" } : Jvm.MethodName) ({ cls := "java/lang/Object", name := "hashCode", desc := "()I" } : Jvm.MethodName)) ∈ lw_all := lw_g (lw_at lw_m5 5 rfl) rfl
theorem q1181 : (Jvm.Cond.selects "RingDomino$Scanner" ({ cls := "java/lang/Object", name := "equals", desc := "(Ljava/lang/Object;)Z" } : Jvm.MethodName) ({ cls := "java/lang/Object", name := "equals", desc := "(Ljava/lang/Object;)Z" } : Jvm.MethodName)) ∈ lw_all := lw_g (lw_at lw_m5 122 rfl) rfl
theorem q3412 : (Jvm.Cond.castable "RingDomino$Scanner" "java/lang/Object") ∈ lw_tbl := lw_at lw_m14 193 rfl
theorem q3479 : (Jvm.Cond.stringRef "RingDomino$Scanner" (112 : Nat) "board") ∈ lw_tbl := lw_at lw_m15 20 rfl
theorem q3480 : (Jvm.Cond.stringRef "RingDomino$Scanner" (114 : Nat) "by") ∈ lw_tbl := lw_at lw_m15 21 rfl
theorem q3481 : (Jvm.Cond.stringRef "RingDomino$Scanner" (116 : Nat) "tile") ∈ lw_tbl := lw_at lw_m15 22 rfl
theorem q3482 : (Jvm.Cond.stringRef "RingDomino$Scanner" (118 : Nat) "put") ∈ lw_tbl := lw_at lw_m15 23 rfl
theorem q3483 : (Jvm.Cond.stringRef "RingDomino$Scanner" (120 : Nat) "at") ∈ lw_tbl := lw_at lw_m15 24 rfl
theorem q3484 : (Jvm.Cond.stringRef "RingDomino$Scanner" (121 : Nat) "turned") ∈ lw_tbl := lw_at lw_m15 25 rfl
theorem q3485 : (Jvm.Cond.stringRef "RingDomino$Scanner" (123 : Nat) "take") ∈ lw_tbl := lw_at lw_m15 26 rfl
theorem q3486 : (Jvm.Cond.stringRef "RingDomino$Scanner" (125 : Nat) "fit") ∈ lw_tbl := lw_at lw_m15 27 rfl
theorem q3487 : (Jvm.Cond.stringRef "RingDomino$Scanner" (127 : Nat) "when") ∈ lw_tbl := lw_at lw_m15 28 rfl
theorem q3488 : (Jvm.Cond.stringRef "RingDomino$Scanner" (129 : Nat) "round") ∈ lw_tbl := lw_at lw_m15 29 rfl
theorem q3489 : (Jvm.Cond.stringRef "RingDomino$Scanner" (131 : Nat) "placed") ∈ lw_tbl := lw_at lw_m15 30 rfl
theorem q3490 : (Jvm.Cond.stringRef "RingDomino$Scanner" (133 : Nat) "matches") ∈ lw_tbl := lw_at lw_m15 31 rfl
theorem q3491 : (Jvm.Cond.stringRef "RingDomino$Scanner" (135 : Nat) "points") ∈ lw_tbl := lw_at lw_m15 32 rfl
theorem q3492 : (Jvm.Cond.stringRef "RingDomino$Scanner" (137 : Nat) "rings") ∈ lw_tbl := lw_at lw_m15 33 rfl
theorem q3493 : (Jvm.Cond.stringRef "RingDomino$Scanner" (139 : Nat) "free") ∈ lw_tbl := lw_at lw_m15 34 rfl
theorem q3494 : (Jvm.Cond.stringRef "RingDomino$Scanner" (141 : Nat) "ways") ∈ lw_tbl := lw_at lw_m15 35 rfl
theorem q3495 : (Jvm.Cond.stringRef "RingDomino$Scanner" (143 : Nat) "of") ∈ lw_tbl := lw_at lw_m15 36 rfl
theorem q3496 : (Jvm.Cond.stringRef "RingDomino$Scanner" (145 : Nat) "on") ∈ lw_tbl := lw_at lw_m15 37 rfl
theorem q3497 : (Jvm.Cond.stringRef "RingDomino$Scanner" (147 : Nat) "fits") ∈ lw_tbl := lw_at lw_m15 38 rfl
theorem q3498 : (Jvm.Cond.stringRef "RingDomino$Scanner" (149 : Nat) "not") ∈ lw_tbl := lw_at lw_m15 39 rfl
theorem q3499 : (Jvm.Cond.stringRef "RingDomino$Scanner" (151 : Nat) "and") ∈ lw_tbl := lw_at lw_m15 40 rfl
theorem q3500 : (Jvm.Cond.stringRef "RingDomino$Scanner" (153 : Nat) "or") ∈ lw_tbl := lw_at lw_m15 41 rfl
theorem q3501 : (Jvm.Cond.stringRef "RingDomino$Scanner" (155 : Nat) "min") ∈ lw_tbl := lw_at lw_m15 42 rfl
theorem q3502 : (Jvm.Cond.stringRef "RingDomino$Scanner" (157 : Nat) "max") ∈ lw_tbl := lw_at lw_m15 43 rfl
theorem in_X8 : ∀ w ∈ wsX80, w ∈ lw_all := lw_in wsX80 [298, 300] (by decide +kernel) (by decide +kernel)

/-! RingDomino$Token -/
def RX9 : String := "RingDomino$Token"
def TX9 : u_T := fun k => match k with
  | 0 => ("RingDomino$Token", "sort", "LRingDomino$Sort;", true)
  | 1 => ("RingDomino$Token", "text", "Ljava/lang/String;", true)
  | _ => ("RingDomino$Token", "at", "I", true)
def tyX9 : Nat → FieldType := fun k => match k with
  | 0 => .object "RingDomino$Sort"
  | 1 => .object "java/lang/String"
  | _ => .int
abbrev wsX90 : List Cond := u_ws RX9 TX9 3
theorem nmX9 : ∀ a, a < 3 → ∀ b, b < 3 → a ≠ b → (TX9 a).2.1 ≠ (TX9 b).2.1 := by decide +kernel
theorem tyX9_ok : ∀ k, k < 3 → parseFieldDescriptor (TX9 k).2.2.1 = some (tyX9 k) := by decide +kernel
abbrev cX9_init : ByteArray := prog_33_method_1_code
def yX9_init : MethodName := ⟨RX9, "<init>", "(LRingDomino$Sort;Ljava/lang/String;I)V"⟩
def dkwX9_init_0 : List UInt8 := [42, 183, 0, 1, 42, 43, 181, 0, 7, 42, 44, 181, 0, 13, 42, 29, 181, 0, 17, 177]
abbrev dktX9_init_0 : List UInt8 := dkwX9_init_0 ++ []
theorem dksX9_init_0 : cX9_init.data.toList.drop 0 = dktX9_init_0 := by decide +kernel
theorem dX9_init_0 : decode cX9_init 0 = .ok (.aload_n 0, 1) := dk_42 (dk_at dksX9_init_0 0 rfl rfl)
theorem dX9_init_1 : decode cX9_init 1 = .ok (.invokespecial 1, 3) := dk_183 0 1 (dk_at dksX9_init_0 1 rfl rfl)
theorem dX9_init_4 : decode cX9_init 4 = .ok (.aload_n 0, 1) := dk_42 (dk_at dksX9_init_0 4 rfl rfl)
theorem dX9_init_5 : decode cX9_init 5 = .ok (.aload_n 1, 1) := dk_43 (dk_at dksX9_init_0 5 rfl rfl)
theorem dX9_init_6 : decode cX9_init 6 = .ok (.putfield 7, 3) := dk_181 0 7 (dk_at dksX9_init_0 6 rfl rfl)
theorem dX9_init_9 : decode cX9_init 9 = .ok (.aload_n 0, 1) := dk_42 (dk_at dksX9_init_0 9 rfl rfl)
theorem dX9_init_10 : decode cX9_init 10 = .ok (.aload_n 2, 1) := dk_44 (dk_at dksX9_init_0 10 rfl rfl)
theorem dX9_init_11 : decode cX9_init 11 = .ok (.putfield 13, 3) := dk_181 0 13 (dk_at dksX9_init_0 11 rfl rfl)
theorem dX9_init_14 : decode cX9_init 14 = .ok (.aload_n 0, 1) := dk_42 (dk_at dksX9_init_0 14 rfl rfl)
theorem dX9_init_15 : decode cX9_init 15 = .ok (.iload_n 3, 1) := dk_29 (dk_at dksX9_init_0 15 rfl rfl)
theorem dX9_init_16 : decode cX9_init 16 = .ok (.putfield 17, 3) := dk_181 0 17 (dk_at dksX9_init_0 16 rfl rfl)
theorem dX9_init_19 : decode cX9_init 19 = .ok (.return_, 1) := dk_177 (dk_at dksX9_init_0 19 rfl rfl)
abbrev cX9_is : ByteArray := prog_33_method_2_code
def yX9_is : MethodName := ⟨RX9, "is", "(Ljava/lang/String;)Z"⟩
def dkwX9_is_1 : List UInt8 := [43, 182, 0, 29, 153, 0, 7, 4, 167, 0, 4, 3, 172]
abbrev dktX9_is_1 : List UInt8 := dkwX9_is_1 ++ []
def dkwX9_is_0 : List UInt8 := [42, 180, 0, 7, 178, 0, 21, 165, 0, 13, 42, 180, 0, 7, 178, 0, 26, 166, 0, 18, 42, 180, 0, 13]
abbrev dktX9_is_0 : List UInt8 := dkwX9_is_0 ++ dktX9_is_1
theorem dksX9_is_0 : cX9_is.data.toList.drop 0 = dktX9_is_0 := by decide +kernel
theorem dksX9_is_1 : cX9_is.data.toList.drop 24 = dktX9_is_1 := dk_seg dksX9_is_0 24 rfl rfl
theorem dX9_is_0 : decode cX9_is 0 = .ok (.aload_n 0, 1) := dk_42 (dk_at dksX9_is_0 0 rfl rfl)
theorem dX9_is_1 : decode cX9_is 1 = .ok (.getfield 7, 3) := dk_180 0 7 (dk_at dksX9_is_0 1 rfl rfl)
theorem dX9_is_4 : decode cX9_is 4 = .ok (.getstatic 21, 3) := dk_178 0 21 (dk_at dksX9_is_0 4 rfl rfl)
theorem dX9_is_7 : decode cX9_is 7 = .ok (.if_acmp .eq 13, 3) := dk_165 0 13 (dk_at dksX9_is_0 7 rfl rfl)
theorem dX9_is_10 : decode cX9_is 10 = .ok (.aload_n 0, 1) := dk_42 (dk_at dksX9_is_0 10 rfl rfl)
theorem dX9_is_11 : decode cX9_is 11 = .ok (.getfield 7, 3) := dk_180 0 7 (dk_at dksX9_is_0 11 rfl rfl)
theorem dX9_is_14 : decode cX9_is 14 = .ok (.getstatic 26, 3) := dk_178 0 26 (dk_at dksX9_is_0 14 rfl rfl)
theorem dX9_is_17 : decode cX9_is 17 = .ok (.if_acmp .ne 18, 3) := dk_166 0 18 (dk_at dksX9_is_0 17 rfl rfl)
theorem dX9_is_20 : decode cX9_is 20 = .ok (.aload_n 0, 1) := dk_42 (dk_at dksX9_is_0 20 rfl rfl)
theorem dX9_is_21 : decode cX9_is 21 = .ok (.getfield 13, 3) := dk_180 0 13 (dk_at dksX9_is_0 21 rfl rfl)
theorem dX9_is_24 : decode cX9_is 24 = .ok (.aload_n 1, 1) := dk_43 (dk_at dksX9_is_1 0 rfl rfl)
theorem dX9_is_25 : decode cX9_is 25 = .ok (.invokevirtual 29, 3) := dk_182 0 29 (dk_at dksX9_is_1 1 rfl rfl)
theorem dX9_is_28 : decode cX9_is 28 = .ok (.ifCond .eq 7, 3) := dk_153 0 7 (dk_at dksX9_is_1 4 rfl rfl)
theorem dX9_is_31 : decode cX9_is 31 = .ok (.iconst 1, 1) := dk_4 (dk_at dksX9_is_1 7 rfl rfl)
theorem dX9_is_32 : decode cX9_is 32 = .ok (.goto 4, 3) := dk_167 0 4 (dk_at dksX9_is_1 8 rfl rfl)
theorem dX9_is_35 : decode cX9_is 35 = .ok (.iconst 0, 1) := dk_3 (dk_at dksX9_is_1 11 rfl rfl)
theorem dX9_is_36 : decode cX9_is 36 = .ok (.ireturn, 1) := dk_172 (dk_at dksX9_is_1 12 rfl rfl)
abbrev cX9_number : ByteArray := prog_33_method_3_code
def yX9_number : MethodName := ⟨RX9, "number", "()I"⟩
def dkwX9_number_1 : List UInt8 := [182, 0, 39, 96, 16, 48, 100, 60, 132, 2, 1, 167, 255, 225, 27, 172]
abbrev dktX9_number_1 : List UInt8 := dkwX9_number_1 ++ []
def dkwX9_number_0 : List UInt8 := [3, 60, 3, 61, 28, 42, 180, 0, 13, 182, 0, 35, 162, 0, 26, 16, 10, 27, 104, 42, 180, 0, 13, 28]
abbrev dktX9_number_0 : List UInt8 := dkwX9_number_0 ++ dktX9_number_1
theorem dksX9_number_0 : cX9_number.data.toList.drop 0 = dktX9_number_0 := by decide +kernel
theorem dksX9_number_1 : cX9_number.data.toList.drop 24 = dktX9_number_1 := dk_seg dksX9_number_0 24 rfl rfl
theorem dX9_number_0 : decode cX9_number 0 = .ok (.iconst 0, 1) := dk_3 (dk_at dksX9_number_0 0 rfl rfl)
theorem dX9_number_1 : decode cX9_number 1 = .ok (.istore_n 1, 1) := dk_60 (dk_at dksX9_number_0 1 rfl rfl)
theorem dX9_number_2 : decode cX9_number 2 = .ok (.iconst 0, 1) := dk_3 (dk_at dksX9_number_0 2 rfl rfl)
theorem dX9_number_3 : decode cX9_number 3 = .ok (.istore_n 2, 1) := dk_61 (dk_at dksX9_number_0 3 rfl rfl)
theorem dX9_number_4 : decode cX9_number 4 = .ok (.iload_n 2, 1) := dk_28 (dk_at dksX9_number_0 4 rfl rfl)
theorem dX9_number_5 : decode cX9_number 5 = .ok (.aload_n 0, 1) := dk_42 (dk_at dksX9_number_0 5 rfl rfl)
theorem dX9_number_6 : decode cX9_number 6 = .ok (.getfield 13, 3) := dk_180 0 13 (dk_at dksX9_number_0 6 rfl rfl)
theorem dX9_number_9 : decode cX9_number 9 = .ok (.invokevirtual 35, 3) := dk_182 0 35 (dk_at dksX9_number_0 9 rfl rfl)
theorem dX9_number_12 : decode cX9_number 12 = .ok (.if_icmp .ge 26, 3) := dk_162 0 26 (dk_at dksX9_number_0 12 rfl rfl)
theorem dX9_number_15 : decode cX9_number 15 = .ok (.bipush 10, 2) := dk_16 10 (dk_at dksX9_number_0 15 rfl rfl)
theorem dX9_number_17 : decode cX9_number 17 = .ok (.iload_n 1, 1) := dk_27 (dk_at dksX9_number_0 17 rfl rfl)
theorem dX9_number_18 : decode cX9_number 18 = .ok (.imul, 1) := dk_104 (dk_at dksX9_number_0 18 rfl rfl)
theorem dX9_number_19 : decode cX9_number 19 = .ok (.aload_n 0, 1) := dk_42 (dk_at dksX9_number_0 19 rfl rfl)
theorem dX9_number_20 : decode cX9_number 20 = .ok (.getfield 13, 3) := dk_180 0 13 (dk_at dksX9_number_0 20 rfl rfl)
theorem dX9_number_23 : decode cX9_number 23 = .ok (.iload_n 2, 1) := dk_28 (dk_at dksX9_number_0 23 rfl rfl)
theorem dX9_number_24 : decode cX9_number 24 = .ok (.invokevirtual 39, 3) := dk_182 0 39 (dk_at dksX9_number_1 0 rfl rfl)
theorem dX9_number_27 : decode cX9_number 27 = .ok (.iadd, 1) := dk_96 (dk_at dksX9_number_1 3 rfl rfl)
theorem dX9_number_28 : decode cX9_number 28 = .ok (.bipush 48, 2) := dk_16 48 (dk_at dksX9_number_1 4 rfl rfl)
theorem dX9_number_30 : decode cX9_number 30 = .ok (.isub, 1) := dk_100 (dk_at dksX9_number_1 6 rfl rfl)
theorem dX9_number_31 : decode cX9_number 31 = .ok (.istore_n 1, 1) := dk_60 (dk_at dksX9_number_1 7 rfl rfl)
theorem dX9_number_32 : decode cX9_number 32 = .ok (.iinc 2 1, 3) := dk_132 2 1 (dk_at dksX9_number_1 8 rfl rfl)
theorem dX9_number_35 : decode cX9_number 35 = .ok (.goto (-31), 3) := dk_167 255 225 (dk_at dksX9_number_1 11 rfl rfl)
theorem dX9_number_38 : decode cX9_number 38 = .ok (.iload_n 1, 1) := dk_27 (dk_at dksX9_number_1 14 rfl rfl)
theorem dX9_number_39 : decode cX9_number 39 = .ok (.ireturn, 1) := dk_172 (dk_at dksX9_number_1 15 rfl rfl)
theorem q116 : (Jvm.Cond.initialized "RingDomino$Token") ∈ lw_all := lw_g (lw_at lw_m1 17 rfl) rfl
theorem q323 : (Jvm.Cond.instantiable "RingDomino$Token" (3 : Nat)) ∈ lw_all := lw_g (lw_at lw_m1 224 rfl) rfl
theorem q328 : (Jvm.Cond.instanceMethod ({ cls := "RingDomino$Token", name := "<init>", desc := "(LRingDomino$Sort;Ljava/lang/String;I)V" } : Jvm.MethodName)) ∈ lw_all := lw_g (lw_at lw_m1 229 rfl) rfl
theorem q329 : (Jvm.Cond.code ({ cls := "RingDomino$Token", name := "<init>", desc := "(LRingDomino$Sort;Ljava/lang/String;I)V" } : Jvm.MethodName) prog_33_method_1_code (4 : Nat) (Option.none : Option Jvm.ClassFile.FieldType)) ∈ lw_all := lw_g (lw_at lw_m1 230 rfl) rfl
theorem q330 : (Jvm.Cond.methodLink "RingDomino$Token" (1 : Nat) ({ cls := "java/lang/Object", name := "<init>", desc := "()V" } : Jvm.MethodName)) ∈ lw_all := lw_g (lw_at lw_m1 231 rfl) rfl
theorem q331 : (Jvm.Cond.fieldLink "RingDomino$Token" (7 : Nat) "RingDomino$Token" "sort" "LRingDomino$Sort;") ∈ lw_all := lw_g (lw_at lw_m1 232 rfl) rfl
theorem q334 : (Jvm.Cond.fieldLink "RingDomino$Token" (13 : Nat) "RingDomino$Token" "text" "Ljava/lang/String;") ∈ lw_all := lw_g (lw_at lw_m1 235 rfl) rfl
theorem q337 : (Jvm.Cond.fieldLink "RingDomino$Token" (17 : Nat) "RingDomino$Token" "at" "I") ∈ lw_all := lw_g (lw_at lw_m1 238 rfl) rfl
theorem q339 : (Jvm.Cond.laysFinal "RingDomino$Token" "RingDomino$Token" "sort" "LRingDomino$Sort;") ∈ lw_all := lw_g (lw_at lw_m2 0 rfl) rfl
theorem q340 : (Jvm.Cond.soleField "RingDomino$Token" "sort") ∈ lw_all := lw_g (lw_at lw_m2 1 rfl) rfl
theorem q341 : (Jvm.Cond.laysFinal "RingDomino$Token" "RingDomino$Token" "text" "Ljava/lang/String;") ∈ lw_all := lw_g (lw_at lw_m2 2 rfl) rfl
theorem q342 : (Jvm.Cond.soleField "RingDomino$Token" "text") ∈ lw_all := lw_g (lw_at lw_m2 3 rfl) rfl
theorem q343 : (Jvm.Cond.laysFinal "RingDomino$Token" "RingDomino$Token" "at" "I") ∈ lw_all := lw_g (lw_at lw_m2 4 rfl) rfl
theorem q344 : (Jvm.Cond.soleField "RingDomino$Token" "at") ∈ lw_all := lw_g (lw_at lw_m2 5 rfl) rfl
theorem q345 : (Jvm.Cond.superclass "RingDomino$Token" "java/lang/Object") ∈ lw_all := lw_g (lw_at lw_m2 6 rfl) rfl
theorem q813 : (Jvm.Cond.selects "RingDomino$Token" ({ cls := "java/lang/Object", name := "getClass", desc := "()Ljava/lang/Class;" } : Jvm.MethodName) ({ cls := "java/lang/Object", name := "getClass", desc := "()Ljava/lang/Class;" } : Jvm.MethodName)) ∈ lw_all := lw_g (lw_at lw_m3 234 rfl) rfl
theorem q946 : (Jvm.Cond.instanceMethod ({ cls := "RingDomino$Token", name := "is", desc := "(Ljava/lang/String;)Z" } : Jvm.MethodName)) ∈ lw_all := lw_g (lw_at lw_m4 127 rfl) rfl
theorem q947 : (Jvm.Cond.selects "RingDomino$Token" ({ cls := "RingDomino$Token", name := "is", desc := "(Ljava/lang/String;)Z" } : Jvm.MethodName) ({ cls := "RingDomino$Token", name := "is", desc := "(Ljava/lang/String;)Z" } : Jvm.MethodName)) ∈ lw_all := lw_g (lw_at lw_m4 128 rfl) rfl
theorem q948 : (Jvm.Cond.code ({ cls := "RingDomino$Token", name := "is", desc := "(Ljava/lang/String;)Z" } : Jvm.MethodName) prog_33_method_2_code (2 : Nat) (Option.some Jvm.ClassFile.FieldType.boolean)) ∈ lw_all := lw_g (lw_at lw_m4 129 rfl) rfl
theorem q949 : (Jvm.Cond.fieldLink "RingDomino$Token" (21 : Nat) "RingDomino$Sort" "KEY" "LRingDomino$Sort;") ∈ lw_all := lw_g (lw_at lw_m4 130 rfl) rfl
theorem q950 : (Jvm.Cond.fieldLink "RingDomino$Token" (26 : Nat) "RingDomino$Sort" "SYMBOL" "LRingDomino$Sort;") ∈ lw_all := lw_g (lw_at lw_m4 131 rfl) rfl
theorem q951 : (Jvm.Cond.methodLink "RingDomino$Token" (29 : Nat) ({ cls := "java/lang/String", name := "equals", desc := "(Ljava/lang/Object;)Z" } : Jvm.MethodName)) ∈ lw_all := lw_g (lw_at lw_m4 132 rfl) rfl
theorem q992 : (Jvm.Cond.instanceMethod ({ cls := "RingDomino$Token", name := "number", desc := "()I" } : Jvm.MethodName)) ∈ lw_all := lw_g (lw_at lw_m4 173 rfl) rfl
theorem q993 : (Jvm.Cond.selects "RingDomino$Token" ({ cls := "RingDomino$Token", name := "number", desc := "()I" } : Jvm.MethodName) ({ cls := "RingDomino$Token", name := "number", desc := "()I" } : Jvm.MethodName)) ∈ lw_all := lw_g (lw_at lw_m4 174 rfl) rfl
theorem q994 : (Jvm.Cond.code ({ cls := "RingDomino$Token", name := "number", desc := "()I" } : Jvm.MethodName) prog_33_method_3_code (3 : Nat) (Option.some Jvm.ClassFile.FieldType.int)) ∈ lw_all := lw_g (lw_at lw_m4 175 rfl) rfl
theorem q995 : (Jvm.Cond.methodLink "RingDomino$Token" (35 : Nat) ({ cls := "java/lang/String", name := "length", desc := "()I" } : Jvm.MethodName)) ∈ lw_all := lw_g (lw_at lw_m4 176 rfl) rfl
theorem q996 : (Jvm.Cond.methodLink "RingDomino$Token" (39 : Nat) ({ cls := "java/lang/String", name := "charAt", desc := "(I)C" } : Jvm.MethodName)) ∈ lw_all := lw_g (lw_at lw_m4 177 rfl) rfl
theorem q1076 : (Jvm.Cond.selects "RingDomino$Token" ({ cls := "java/lang/Object", name := "hashCode", desc := "()I" } : Jvm.MethodName) ({ cls := "java/lang/Object", name := "hashCode", desc := "()I" } : Jvm.MethodName)) ∈ lw_all := lw_g (lw_at lw_m5 17 rfl) rfl
theorem q1193 : (Jvm.Cond.selects "RingDomino$Token" ({ cls := "java/lang/Object", name := "equals", desc := "(Ljava/lang/Object;)Z" } : Jvm.MethodName) ({ cls := "java/lang/Object", name := "equals", desc := "(Ljava/lang/Object;)Z" } : Jvm.MethodName)) ∈ lw_all := lw_g (lw_at lw_m5 134 rfl) rfl
theorem q3413 : (Jvm.Cond.castable "RingDomino$Token" "java/lang/Object") ∈ lw_tbl := lw_at lw_m14 194 rfl
theorem in_X9 : ∀ w ∈ wsX90, w ∈ lw_all := lw_in wsX90 [339, 341, 343] (by decide +kernel) (by decide +kernel)

/-! RingDomino$Fault -/
def RX10 : String := "RingDomino$Fault"
def TX10 : u_T := fun k => match k with
  | 0 => ("java/lang/Throwable", "cause", "Ljava/lang/Throwable;", false)
  | 1 => ("java/lang/Throwable", "stackTrace", "[Ljava/lang/StackTraceElement;", false)
  | 2 => ("java/lang/Throwable", "suppressedExceptions", "Ljava/util/List;", false)
  | 3 => ("java/lang/Throwable", "detailMessage", "Ljava/lang/String;", false)
  | 4 => ("java/lang/Throwable", "backtrace", "Ljava/lang/Object;", false)
  | 5 => ("java/lang/Throwable", "depth", "I", false)
  | 6 => ("RingDomino$Fault", "error", "I", true)
  | _ => ("RingDomino$Fault", "at", "I", true)
def tyX10 : Nat → FieldType := fun k => match k with
  | 0 => .object "java/lang/Throwable"
  | 1 => .array (.object "java/lang/StackTraceElement")
  | 2 => .object "java/util/List"
  | 3 => .object "java/lang/String"
  | 4 => .object "java/lang/Object"
  | 5 => .int
  | 6 => .int
  | _ => .int
abbrev wsX100 : List Cond := u_ws RX10 TX10 8
theorem nmX10 : ∀ a, a < 8 → ∀ b, b < 8 → a ≠ b → (TX10 a).2.1 ≠ (TX10 b).2.1 := by decide +kernel
theorem tyX10_ok : ∀ k, k < 8 → parseFieldDescriptor (TX10 k).2.2.1 = some (tyX10 k) := by decide +kernel
abbrev cX10_init : ByteArray := prog_9_method_1_code
def yX10_init : MethodName := ⟨RX10, "<init>", "(II)V"⟩
def dkwX10_init_0 : List UInt8 := [42, 183, 0, 1, 42, 27, 181, 0, 7, 42, 28, 181, 0, 13, 177]
abbrev dktX10_init_0 : List UInt8 := dkwX10_init_0 ++ []
theorem dksX10_init_0 : cX10_init.data.toList.drop 0 = dktX10_init_0 := by decide +kernel
theorem dX10_init_0 : decode cX10_init 0 = .ok (.aload_n 0, 1) := dk_42 (dk_at dksX10_init_0 0 rfl rfl)
theorem dX10_init_1 : decode cX10_init 1 = .ok (.invokespecial 1, 3) := dk_183 0 1 (dk_at dksX10_init_0 1 rfl rfl)
theorem dX10_init_4 : decode cX10_init 4 = .ok (.aload_n 0, 1) := dk_42 (dk_at dksX10_init_0 4 rfl rfl)
theorem dX10_init_5 : decode cX10_init 5 = .ok (.iload_n 1, 1) := dk_27 (dk_at dksX10_init_0 5 rfl rfl)
theorem dX10_init_6 : decode cX10_init 6 = .ok (.putfield 7, 3) := dk_181 0 7 (dk_at dksX10_init_0 6 rfl rfl)
theorem dX10_init_9 : decode cX10_init 9 = .ok (.aload_n 0, 1) := dk_42 (dk_at dksX10_init_0 9 rfl rfl)
theorem dX10_init_10 : decode cX10_init 10 = .ok (.iload_n 2, 1) := dk_28 (dk_at dksX10_init_0 10 rfl rfl)
theorem dX10_init_11 : decode cX10_init 11 = .ok (.putfield 13, 3) := dk_181 0 13 (dk_at dksX10_init_0 11 rfl rfl)
theorem dX10_init_14 : decode cX10_init 14 = .ok (.return_, 1) := dk_177 (dk_at dksX10_init_0 14 rfl rfl)
theorem q135 : (Jvm.Cond.initialized "RingDomino$Fault") ∈ lw_all := lw_g (lw_at lw_m1 36 rfl) rfl
theorem q552 : (Jvm.Cond.selects "RingDomino$Fault" ({ cls := "java/lang/Throwable", name := "fillInStackTrace", desc := "()Ljava/lang/Throwable;" } : Jvm.MethodName) ({ cls := "java/lang/Throwable", name := "fillInStackTrace", desc := "()Ljava/lang/Throwable;" } : Jvm.MethodName)) ∈ lw_all := lw_g (lw_at lw_m2 213 rfl) rfl
theorem q792 : (Jvm.Cond.selects "RingDomino$Fault" ({ cls := "java/lang/Object", name := "getClass", desc := "()Ljava/lang/Class;" } : Jvm.MethodName) ({ cls := "java/lang/Object", name := "getClass", desc := "()Ljava/lang/Class;" } : Jvm.MethodName)) ∈ lw_all := lw_g (lw_at lw_m3 213 rfl) rfl
theorem q966 : (Jvm.Cond.instantiable "RingDomino$Fault" (8 : Nat)) ∈ lw_all := lw_g (lw_at lw_m4 147 rfl) rfl
theorem q967 : (Jvm.Cond.castable "RingDomino$Fault" "RingDomino$Fault") ∈ lw_tbl := lw_at lw_m4 148 rfl
theorem q968 : (Jvm.Cond.selects "RingDomino$Fault" ({ cls := "java/lang/Throwable", name := "fillInStackTrace", desc := "(I)Ljava/lang/Throwable;" } : Jvm.MethodName) ({ cls := "java/lang/Throwable", name := "fillInStackTrace", desc := "(I)Ljava/lang/Throwable;" } : Jvm.MethodName)) ∈ lw_all := lw_g (lw_at lw_m4 149 rfl) rfl
theorem q969 : (Jvm.Cond.lays "RingDomino$Fault" "java/lang/Throwable" "cause" "Ljava/lang/Throwable;") ∈ lw_all := lw_g (lw_at lw_m4 150 rfl) rfl
theorem q970 : (Jvm.Cond.lays "RingDomino$Fault" "java/lang/Throwable" "stackTrace" "[Ljava/lang/StackTraceElement;") ∈ lw_all := lw_g (lw_at lw_m4 151 rfl) rfl
theorem q971 : (Jvm.Cond.lays "RingDomino$Fault" "java/lang/Throwable" "suppressedExceptions" "Ljava/util/List;") ∈ lw_all := lw_g (lw_at lw_m4 152 rfl) rfl
theorem q972 : (Jvm.Cond.lays "RingDomino$Fault" "java/lang/Throwable" "detailMessage" "Ljava/lang/String;") ∈ lw_all := lw_g (lw_at lw_m4 153 rfl) rfl
theorem q973 : (Jvm.Cond.lays "RingDomino$Fault" "java/lang/Throwable" "backtrace" "Ljava/lang/Object;") ∈ lw_all := lw_g (lw_at lw_m4 154 rfl) rfl
theorem q975 : (Jvm.Cond.instanceMethod ({ cls := "RingDomino$Fault", name := "<init>", desc := "(II)V" } : Jvm.MethodName)) ∈ lw_all := lw_g (lw_at lw_m4 156 rfl) rfl
theorem q976 : (Jvm.Cond.code ({ cls := "RingDomino$Fault", name := "<init>", desc := "(II)V" } : Jvm.MethodName) prog_9_method_1_code (3 : Nat) (Option.none : Option Jvm.ClassFile.FieldType)) ∈ lw_all := lw_g (lw_at lw_m4 157 rfl) rfl
theorem q977 : (Jvm.Cond.methodLink "RingDomino$Fault" (1 : Nat) ({ cls := "java/lang/Exception", name := "<init>", desc := "()V" } : Jvm.MethodName)) ∈ lw_all := lw_g (lw_at lw_m4 158 rfl) rfl
theorem q981 : (Jvm.Cond.fieldLink "RingDomino$Fault" (7 : Nat) "RingDomino$Fault" "error" "I") ∈ lw_all := lw_g (lw_at lw_m4 162 rfl) rfl
theorem q983 : (Jvm.Cond.fieldLink "RingDomino$Fault" (13 : Nat) "RingDomino$Fault" "at" "I") ∈ lw_all := lw_g (lw_at lw_m4 164 rfl) rfl
theorem q985 : (Jvm.Cond.laysFinal "RingDomino$Fault" "RingDomino$Fault" "error" "I") ∈ lw_all := lw_g (lw_at lw_m4 166 rfl) rfl
theorem q986 : (Jvm.Cond.soleField "RingDomino$Fault" "error") ∈ lw_all := lw_g (lw_at lw_m4 167 rfl) rfl
theorem q987 : (Jvm.Cond.laysFinal "RingDomino$Fault" "RingDomino$Fault" "at" "I") ∈ lw_all := lw_g (lw_at lw_m4 168 rfl) rfl
theorem q988 : (Jvm.Cond.soleField "RingDomino$Fault" "at") ∈ lw_all := lw_g (lw_at lw_m4 169 rfl) rfl
theorem q989 : (Jvm.Cond.lays "RingDomino$Fault" "java/lang/Throwable" "depth" "I") ∈ lw_all := lw_g (lw_at lw_m4 170 rfl) rfl
theorem q990 : (Jvm.Cond.superclass "RingDomino$Fault" "java/lang/Exception") ∈ lw_all := lw_g (lw_at lw_m4 171 rfl) rfl
theorem q1055 : (Jvm.Cond.selects "RingDomino$Fault" ({ cls := "java/lang/Object", name := "hashCode", desc := "()I" } : Jvm.MethodName) ({ cls := "java/lang/Object", name := "hashCode", desc := "()I" } : Jvm.MethodName)) ∈ lw_all := lw_g (lw_at lw_m4 236 rfl) rfl
theorem q1172 : (Jvm.Cond.selects "RingDomino$Fault" ({ cls := "java/lang/Object", name := "equals", desc := "(Ljava/lang/Object;)Z" } : Jvm.MethodName) ({ cls := "java/lang/Object", name := "equals", desc := "(Ljava/lang/Object;)Z" } : Jvm.MethodName)) ∈ lw_all := lw_g (lw_at lw_m5 113 rfl) rfl
theorem q3417 : (Jvm.Cond.castable "RingDomino$Fault" "java/lang/Object") ∈ lw_tbl := lw_at lw_m14 198 rfl
theorem in_X10 : ∀ w ∈ wsX100, w ∈ lw_all := lw_in wsX100 [969, 970, 971, 972, 973, 989, 985, 987] (by decide +kernel) (by decide +kernel)

/-! RingDomino$Tile -/
def RX11 : String := "RingDomino$Tile"
def TX11 : u_T := fun k => match k with
  | _ => ("RingDomino$Tile", "numbers", "[I", true)
def tyX11 : Nat → FieldType := fun k => match k with
  | _ => .array .int
abbrev wsX110 : List Cond := u_ws RX11 TX11 1
theorem nmX11 : ∀ a, a < 1 → ∀ b, b < 1 → a ≠ b → (TX11 a).2.1 ≠ (TX11 b).2.1 := by decide +kernel
theorem tyX11_ok : ∀ k, k < 1 → parseFieldDescriptor (TX11 k).2.2.1 = some (tyX11 k) := by decide +kernel
abbrev cX11_init : ByteArray := prog_32_method_1_code
def yX11_init : MethodName := ⟨RX11, "<init>", "(III)V"⟩
def dkwX11_init_0 : List UInt8 := [42, 183, 0, 3, 42, 6, 188, 10, 89, 3, 27, 79, 89, 4, 28, 79, 89, 5, 29, 79, 181, 0, 9, 177]
abbrev dktX11_init_0 : List UInt8 := dkwX11_init_0 ++ []
theorem dksX11_init_0 : cX11_init.data.toList.drop 0 = dktX11_init_0 := by decide +kernel
theorem dX11_init_0 : decode cX11_init 0 = .ok (.aload_n 0, 1) := dk_42 (dk_at dksX11_init_0 0 rfl rfl)
theorem dX11_init_1 : decode cX11_init 1 = .ok (.invokespecial 3, 3) := dk_183 0 3 (dk_at dksX11_init_0 1 rfl rfl)
theorem dX11_init_4 : decode cX11_init 4 = .ok (.aload_n 0, 1) := dk_42 (dk_at dksX11_init_0 4 rfl rfl)
theorem dX11_init_5 : decode cX11_init 5 = .ok (.iconst 3, 1) := dk_6 (dk_at dksX11_init_0 5 rfl rfl)
theorem dX11_init_6 : decode cX11_init 6 = .ok (.newarray .int, 2) := dk_188_10 (dk_at dksX11_init_0 6 rfl rfl)
theorem dX11_init_8 : decode cX11_init 8 = .ok (.dup, 1) := dk_89 (dk_at dksX11_init_0 8 rfl rfl)
theorem dX11_init_9 : decode cX11_init 9 = .ok (.iconst 0, 1) := dk_3 (dk_at dksX11_init_0 9 rfl rfl)
theorem dX11_init_10 : decode cX11_init 10 = .ok (.iload_n 1, 1) := dk_27 (dk_at dksX11_init_0 10 rfl rfl)
theorem dX11_init_11 : decode cX11_init 11 = .ok (.iastore, 1) := dk_79 (dk_at dksX11_init_0 11 rfl rfl)
theorem dX11_init_12 : decode cX11_init 12 = .ok (.dup, 1) := dk_89 (dk_at dksX11_init_0 12 rfl rfl)
theorem dX11_init_13 : decode cX11_init 13 = .ok (.iconst 1, 1) := dk_4 (dk_at dksX11_init_0 13 rfl rfl)
theorem dX11_init_14 : decode cX11_init 14 = .ok (.iload_n 2, 1) := dk_28 (dk_at dksX11_init_0 14 rfl rfl)
theorem dX11_init_15 : decode cX11_init 15 = .ok (.iastore, 1) := dk_79 (dk_at dksX11_init_0 15 rfl rfl)
theorem dX11_init_16 : decode cX11_init 16 = .ok (.dup, 1) := dk_89 (dk_at dksX11_init_0 16 rfl rfl)
theorem dX11_init_17 : decode cX11_init 17 = .ok (.iconst 2, 1) := dk_5 (dk_at dksX11_init_0 17 rfl rfl)
theorem dX11_init_18 : decode cX11_init 18 = .ok (.iload_n 3, 1) := dk_29 (dk_at dksX11_init_0 18 rfl rfl)
theorem dX11_init_19 : decode cX11_init 19 = .ok (.iastore, 1) := dk_79 (dk_at dksX11_init_0 19 rfl rfl)
theorem dX11_init_20 : decode cX11_init 20 = .ok (.putfield 9, 3) := dk_181 0 9 (dk_at dksX11_init_0 20 rfl rfl)
theorem dX11_init_23 : decode cX11_init 23 = .ok (.return_, 1) := dk_177 (dk_at dksX11_init_0 23 rfl rfl)
abbrev cX11_at : ByteArray := prog_32_method_2_code
def yX11_at : MethodName := ⟨RX11, "at", "(II)I"⟩
def dkwX11_at_0 : List UInt8 := [42, 180, 0, 9, 27, 28, 100, 16, 6, 96, 16, 6, 112, 5, 108, 46, 172]
abbrev dktX11_at_0 : List UInt8 := dkwX11_at_0 ++ []
theorem dksX11_at_0 : cX11_at.data.toList.drop 0 = dktX11_at_0 := by decide +kernel
theorem dX11_at_0 : decode cX11_at 0 = .ok (.aload_n 0, 1) := dk_42 (dk_at dksX11_at_0 0 rfl rfl)
theorem dX11_at_1 : decode cX11_at 1 = .ok (.getfield 9, 3) := dk_180 0 9 (dk_at dksX11_at_0 1 rfl rfl)
theorem dX11_at_4 : decode cX11_at 4 = .ok (.iload_n 1, 1) := dk_27 (dk_at dksX11_at_0 4 rfl rfl)
theorem dX11_at_5 : decode cX11_at 5 = .ok (.iload_n 2, 1) := dk_28 (dk_at dksX11_at_0 5 rfl rfl)
theorem dX11_at_6 : decode cX11_at 6 = .ok (.isub, 1) := dk_100 (dk_at dksX11_at_0 6 rfl rfl)
theorem dX11_at_7 : decode cX11_at 7 = .ok (.bipush 6, 2) := dk_16 6 (dk_at dksX11_at_0 7 rfl rfl)
theorem dX11_at_9 : decode cX11_at 9 = .ok (.iadd, 1) := dk_96 (dk_at dksX11_at_0 9 rfl rfl)
theorem dX11_at_10 : decode cX11_at 10 = .ok (.bipush 6, 2) := dk_16 6 (dk_at dksX11_at_0 10 rfl rfl)
theorem dX11_at_12 : decode cX11_at 12 = .ok (.irem, 1) := dk_112 (dk_at dksX11_at_0 12 rfl rfl)
theorem dX11_at_13 : decode cX11_at 13 = .ok (.iconst 2, 1) := dk_5 (dk_at dksX11_at_0 13 rfl rfl)
theorem dX11_at_14 : decode cX11_at 14 = .ok (.idiv, 1) := dk_108 (dk_at dksX11_at_0 14 rfl rfl)
theorem dX11_at_15 : decode cX11_at 15 = .ok (.iaload, 1) := dk_46 (dk_at dksX11_at_0 15 rfl rfl)
theorem dX11_at_16 : decode cX11_at 16 = .ok (.ireturn, 1) := dk_172 (dk_at dksX11_at_0 16 rfl rfl)
abbrev cX11_isAlike : ByteArray := prog_32_method_3_code
def yX11_isAlike : MethodName := ⟨RX11, "isAlike", "()Z"⟩
def dkwX11_isAlike_1 : List UInt8 := [180, 0, 9, 5, 46, 160, 0, 7, 4, 167, 0, 4, 3, 172]
abbrev dktX11_isAlike_1 : List UInt8 := dkwX11_isAlike_1 ++ []
def dkwX11_isAlike_0 : List UInt8 := [42, 180, 0, 9, 3, 46, 42, 180, 0, 9, 4, 46, 160, 0, 22, 42, 180, 0, 9, 4, 46, 42]
abbrev dktX11_isAlike_0 : List UInt8 := dkwX11_isAlike_0 ++ dktX11_isAlike_1
theorem dksX11_isAlike_0 : cX11_isAlike.data.toList.drop 0 = dktX11_isAlike_0 := by decide +kernel
theorem dksX11_isAlike_1 : cX11_isAlike.data.toList.drop 22 = dktX11_isAlike_1 := dk_seg dksX11_isAlike_0 22 rfl rfl
theorem dX11_isAlike_0 : decode cX11_isAlike 0 = .ok (.aload_n 0, 1) := dk_42 (dk_at dksX11_isAlike_0 0 rfl rfl)
theorem dX11_isAlike_1 : decode cX11_isAlike 1 = .ok (.getfield 9, 3) := dk_180 0 9 (dk_at dksX11_isAlike_0 1 rfl rfl)
theorem dX11_isAlike_4 : decode cX11_isAlike 4 = .ok (.iconst 0, 1) := dk_3 (dk_at dksX11_isAlike_0 4 rfl rfl)
theorem dX11_isAlike_5 : decode cX11_isAlike 5 = .ok (.iaload, 1) := dk_46 (dk_at dksX11_isAlike_0 5 rfl rfl)
theorem dX11_isAlike_6 : decode cX11_isAlike 6 = .ok (.aload_n 0, 1) := dk_42 (dk_at dksX11_isAlike_0 6 rfl rfl)
theorem dX11_isAlike_7 : decode cX11_isAlike 7 = .ok (.getfield 9, 3) := dk_180 0 9 (dk_at dksX11_isAlike_0 7 rfl rfl)
theorem dX11_isAlike_10 : decode cX11_isAlike 10 = .ok (.iconst 1, 1) := dk_4 (dk_at dksX11_isAlike_0 10 rfl rfl)
theorem dX11_isAlike_11 : decode cX11_isAlike 11 = .ok (.iaload, 1) := dk_46 (dk_at dksX11_isAlike_0 11 rfl rfl)
theorem dX11_isAlike_12 : decode cX11_isAlike 12 = .ok (.if_icmp .ne 22, 3) := dk_160 0 22 (dk_at dksX11_isAlike_0 12 rfl rfl)
theorem dX11_isAlike_15 : decode cX11_isAlike 15 = .ok (.aload_n 0, 1) := dk_42 (dk_at dksX11_isAlike_0 15 rfl rfl)
theorem dX11_isAlike_16 : decode cX11_isAlike 16 = .ok (.getfield 9, 3) := dk_180 0 9 (dk_at dksX11_isAlike_0 16 rfl rfl)
theorem dX11_isAlike_19 : decode cX11_isAlike 19 = .ok (.iconst 1, 1) := dk_4 (dk_at dksX11_isAlike_0 19 rfl rfl)
theorem dX11_isAlike_20 : decode cX11_isAlike 20 = .ok (.iaload, 1) := dk_46 (dk_at dksX11_isAlike_0 20 rfl rfl)
theorem dX11_isAlike_21 : decode cX11_isAlike 21 = .ok (.aload_n 0, 1) := dk_42 (dk_at dksX11_isAlike_0 21 rfl rfl)
theorem dX11_isAlike_22 : decode cX11_isAlike 22 = .ok (.getfield 9, 3) := dk_180 0 9 (dk_at dksX11_isAlike_1 0 rfl rfl)
theorem dX11_isAlike_25 : decode cX11_isAlike 25 = .ok (.iconst 2, 1) := dk_5 (dk_at dksX11_isAlike_1 3 rfl rfl)
theorem dX11_isAlike_26 : decode cX11_isAlike 26 = .ok (.iaload, 1) := dk_46 (dk_at dksX11_isAlike_1 4 rfl rfl)
theorem dX11_isAlike_27 : decode cX11_isAlike 27 = .ok (.if_icmp .ne 7, 3) := dk_160 0 7 (dk_at dksX11_isAlike_1 5 rfl rfl)
theorem dX11_isAlike_30 : decode cX11_isAlike 30 = .ok (.iconst 1, 1) := dk_4 (dk_at dksX11_isAlike_1 8 rfl rfl)
theorem dX11_isAlike_31 : decode cX11_isAlike 31 = .ok (.goto 4, 3) := dk_167 0 4 (dk_at dksX11_isAlike_1 9 rfl rfl)
theorem dX11_isAlike_34 : decode cX11_isAlike 34 = .ok (.iconst 0, 1) := dk_3 (dk_at dksX11_isAlike_1 12 rfl rfl)
theorem dX11_isAlike_35 : decode cX11_isAlike 35 = .ok (.ireturn, 1) := dk_172 (dk_at dksX11_isAlike_1 13 rfl rfl)
theorem q139 : (Jvm.Cond.initialized "RingDomino$Tile") ∈ lw_all := lw_g (lw_at lw_m1 40 rfl) rfl
theorem q812 : (Jvm.Cond.selects "RingDomino$Tile" ({ cls := "java/lang/Object", name := "getClass", desc := "()Ljava/lang/Class;" } : Jvm.MethodName) ({ cls := "java/lang/Object", name := "getClass", desc := "()Ljava/lang/Class;" } : Jvm.MethodName)) ∈ lw_all := lw_g (lw_at lw_m3 233 rfl) rfl
theorem q1075 : (Jvm.Cond.selects "RingDomino$Tile" ({ cls := "java/lang/Object", name := "hashCode", desc := "()I" } : Jvm.MethodName) ({ cls := "java/lang/Object", name := "hashCode", desc := "()I" } : Jvm.MethodName)) ∈ lw_all := lw_g (lw_at lw_m5 16 rfl) rfl
theorem q1192 : (Jvm.Cond.selects "RingDomino$Tile" ({ cls := "java/lang/Object", name := "equals", desc := "(Ljava/lang/Object;)Z" } : Jvm.MethodName) ({ cls := "java/lang/Object", name := "equals", desc := "(Ljava/lang/Object;)Z" } : Jvm.MethodName)) ∈ lw_all := lw_g (lw_at lw_m5 133 rfl) rfl
theorem q1547 : (Jvm.Cond.instantiable "RingDomino$Tile" (1 : Nat)) ∈ lw_all := lw_g (lw_at lw_m7 8 rfl) rfl
theorem q1549 : (Jvm.Cond.instanceMethod ({ cls := "RingDomino$Tile", name := "<init>", desc := "(III)V" } : Jvm.MethodName)) ∈ lw_all := lw_g (lw_at lw_m7 10 rfl) rfl
theorem q1550 : (Jvm.Cond.code ({ cls := "RingDomino$Tile", name := "<init>", desc := "(III)V" } : Jvm.MethodName) prog_32_method_1_code (4 : Nat) (Option.none : Option Jvm.ClassFile.FieldType)) ∈ lw_all := lw_g (lw_at lw_m7 11 rfl) rfl
theorem q1551 : (Jvm.Cond.methodLink "RingDomino$Tile" (3 : Nat) ({ cls := "java/lang/Object", name := "<init>", desc := "()V" } : Jvm.MethodName)) ∈ lw_all := lw_g (lw_at lw_m7 12 rfl) rfl
theorem q1552 : (Jvm.Cond.fieldLink "RingDomino$Tile" (9 : Nat) "RingDomino$Tile" "numbers" "[I") ∈ lw_all := lw_g (lw_at lw_m7 13 rfl) rfl
theorem q1553 : (Jvm.Cond.laysFinal "RingDomino$Tile" "RingDomino$Tile" "numbers" "[I") ∈ lw_all := lw_g (lw_at lw_m7 14 rfl) rfl
theorem q1554 : (Jvm.Cond.soleField "RingDomino$Tile" "numbers") ∈ lw_all := lw_g (lw_at lw_m7 15 rfl) rfl
theorem q1555 : (Jvm.Cond.superclass "RingDomino$Tile" "java/lang/Object") ∈ lw_all := lw_g (lw_at lw_m7 16 rfl) rfl
theorem q2058 : (Jvm.Cond.instanceMethod ({ cls := "RingDomino$Tile", name := "at", desc := "(II)I" } : Jvm.MethodName)) ∈ lw_all := lw_g (lw_at lw_m9 39 rfl) rfl
theorem q2059 : (Jvm.Cond.selects "RingDomino$Tile" ({ cls := "RingDomino$Tile", name := "at", desc := "(II)I" } : Jvm.MethodName) ({ cls := "RingDomino$Tile", name := "at", desc := "(II)I" } : Jvm.MethodName)) ∈ lw_all := lw_g (lw_at lw_m9 40 rfl) rfl
theorem q2060 : (Jvm.Cond.code ({ cls := "RingDomino$Tile", name := "at", desc := "(II)I" } : Jvm.MethodName) prog_32_method_2_code (3 : Nat) (Option.some Jvm.ClassFile.FieldType.int)) ∈ lw_all := lw_g (lw_at lw_m9 41 rfl) rfl
theorem q2654 : (Jvm.Cond.instanceMethod ({ cls := "RingDomino$Tile", name := "isAlike", desc := "()Z" } : Jvm.MethodName)) ∈ lw_all := lw_g (lw_at lw_m11 155 rfl) rfl
theorem q2655 : (Jvm.Cond.selects "RingDomino$Tile" ({ cls := "RingDomino$Tile", name := "isAlike", desc := "()Z" } : Jvm.MethodName) ({ cls := "RingDomino$Tile", name := "isAlike", desc := "()Z" } : Jvm.MethodName)) ∈ lw_all := lw_g (lw_at lw_m11 156 rfl) rfl
theorem q2656 : (Jvm.Cond.code ({ cls := "RingDomino$Tile", name := "isAlike", desc := "()Z" } : Jvm.MethodName) prog_32_method_3_code (1 : Nat) (Option.some Jvm.ClassFile.FieldType.boolean)) ∈ lw_all := lw_g (lw_at lw_m11 157 rfl) rfl
theorem q3420 : (Jvm.Cond.castable "RingDomino$Tile" "java/lang/Object") ∈ lw_tbl := lw_at lw_m14 201 rfl
theorem in_X11 : ∀ w ∈ wsX110, w ∈ lw_all := lw_in wsX110 [1553] (by decide +kernel) (by decide +kernel)

/-! RingDomino$Sum -/
def RX12 : String := "RingDomino$Sum"
abbrev cX12_init : ByteArray := prog_28_method_1_code
def yX12_init : MethodName := ⟨RX12, "<init>", "()V"⟩
theorem dX12_init_0 : decode cX12_init 0 = .ok (.aload_n 0, 1) := by decide +kernel
theorem dX12_init_1 : decode cX12_init 1 = .ok (.invokespecial 1, 3) := by decide +kernel
theorem dX12_init_4 : decode cX12_init 4 = .ok (.return_, 1) := by decide +kernel
theorem q145 : (Jvm.Cond.initialized "RingDomino$Sum") ∈ lw_all := lw_g (lw_at lw_m1 46 rfl) rfl
theorem q1752 : (Jvm.Cond.instanceMethod ({ cls := "RingDomino$Sum", name := "<init>", desc := "()V" } : Jvm.MethodName)) ∈ lw_all := lw_g (lw_at lw_m7 213 rfl) rfl
theorem q1753 : (Jvm.Cond.code ({ cls := "RingDomino$Sum", name := "<init>", desc := "()V" } : Jvm.MethodName) prog_28_method_1_code (1 : Nat) (Option.none : Option Jvm.ClassFile.FieldType)) ∈ lw_all := lw_g (lw_at lw_m7 214 rfl) rfl
theorem q1754 : (Jvm.Cond.methodLink "RingDomino$Sum" (1 : Nat) ({ cls := "java/lang/Object", name := "<init>", desc := "()V" } : Jvm.MethodName)) ∈ lw_all := lw_g (lw_at lw_m7 215 rfl) rfl
theorem q2173 : (Jvm.Cond.declares ({ cls := "RingDomino$Sum", name := "of", desc := "(LRingDomino$Game;)I" } : Jvm.MethodName)) ∈ lw_tbl := lw_at lw_m9 154 rfl
theorem q2174 : (Jvm.Cond.sameMethod "RingDomino$Sum" "RingDomino$Sum" "of" "(LRingDomino$Game;)I") ∈ lw_all := lw_g (lw_at lw_m9 155 rfl) rfl

/-! RingDomino$Plain -/
def RX13 : String := "RingDomino$Plain"
def TX13 : u_T := fun k => match k with
  | _ => ("RingDomino$Plain", "number", "I", true)
def tyX13 : Nat → FieldType := fun k => match k with
  | _ => .int
abbrev wsX130 : List Cond := u_ws RX13 TX13 1
theorem nmX13 : ∀ a, a < 1 → ∀ b, b < 1 → a ≠ b → (TX13 a).2.1 ≠ (TX13 b).2.1 := by decide +kernel
theorem tyX13_ok : ∀ k, k < 1 → parseFieldDescriptor (TX13 k).2.2.1 = some (tyX13 k) := by decide +kernel
abbrev cX13_init : ByteArray := prog_16_method_1_code
def yX13_init : MethodName := ⟨RX13, "<init>", "(I)V"⟩
def dkwX13_init_0 : List UInt8 := [42, 183, 0, 1, 42, 27, 181, 0, 7, 177]
abbrev dktX13_init_0 : List UInt8 := dkwX13_init_0 ++ []
theorem dksX13_init_0 : cX13_init.data.toList.drop 0 = dktX13_init_0 := by decide +kernel
theorem dX13_init_0 : decode cX13_init 0 = .ok (.aload_n 0, 1) := dk_42 (dk_at dksX13_init_0 0 rfl rfl)
theorem dX13_init_1 : decode cX13_init 1 = .ok (.invokespecial 1, 3) := dk_183 0 1 (dk_at dksX13_init_0 1 rfl rfl)
theorem dX13_init_4 : decode cX13_init 4 = .ok (.aload_n 0, 1) := dk_42 (dk_at dksX13_init_0 4 rfl rfl)
theorem dX13_init_5 : decode cX13_init 5 = .ok (.iload_n 1, 1) := dk_27 (dk_at dksX13_init_0 5 rfl rfl)
theorem dX13_init_6 : decode cX13_init 6 = .ok (.putfield 7, 3) := dk_181 0 7 (dk_at dksX13_init_0 6 rfl rfl)
theorem dX13_init_9 : decode cX13_init 9 = .ok (.return_, 1) := dk_177 (dk_at dksX13_init_0 9 rfl rfl)
abbrev cX13_of : ByteArray := prog_16_method_2_code
def yX13_of : MethodName := ⟨RX13, "of", "(LRingDomino$Game;)I"⟩
theorem dX13_of_0 : decode cX13_of 0 = .ok (.aload_n 0, 1) := by decide +kernel
theorem dX13_of_1 : decode cX13_of 1 = .ok (.getfield 7, 3) := by decide +kernel
theorem dX13_of_4 : decode cX13_of 4 = .ok (.ireturn, 1) := by decide +kernel
theorem q146 : (Jvm.Cond.initialized "RingDomino$Plain") ∈ lw_all := lw_g (lw_at lw_m1 47 rfl) rfl
theorem q799 : (Jvm.Cond.selects "RingDomino$Plain" ({ cls := "java/lang/Object", name := "getClass", desc := "()Ljava/lang/Class;" } : Jvm.MethodName) ({ cls := "java/lang/Object", name := "getClass", desc := "()Ljava/lang/Class;" } : Jvm.MethodName)) ∈ lw_all := lw_g (lw_at lw_m3 220 rfl) rfl
theorem q1062 : (Jvm.Cond.selects "RingDomino$Plain" ({ cls := "java/lang/Object", name := "hashCode", desc := "()I" } : Jvm.MethodName) ({ cls := "java/lang/Object", name := "hashCode", desc := "()I" } : Jvm.MethodName)) ∈ lw_all := lw_g (lw_at lw_m5 3 rfl) rfl
theorem q1179 : (Jvm.Cond.selects "RingDomino$Plain" ({ cls := "java/lang/Object", name := "equals", desc := "(Ljava/lang/Object;)Z" } : Jvm.MethodName) ({ cls := "java/lang/Object", name := "equals", desc := "(Ljava/lang/Object;)Z" } : Jvm.MethodName)) ∈ lw_all := lw_g (lw_at lw_m5 120 rfl) rfl
theorem q1747 : (Jvm.Cond.instantiable "RingDomino$Plain" (1 : Nat)) ∈ lw_all := lw_g (lw_at lw_m7 208 rfl) rfl
theorem q1749 : (Jvm.Cond.instanceMethod ({ cls := "RingDomino$Plain", name := "<init>", desc := "(I)V" } : Jvm.MethodName)) ∈ lw_all := lw_g (lw_at lw_m7 210 rfl) rfl
theorem q1750 : (Jvm.Cond.code ({ cls := "RingDomino$Plain", name := "<init>", desc := "(I)V" } : Jvm.MethodName) prog_16_method_1_code (2 : Nat) (Option.none : Option Jvm.ClassFile.FieldType)) ∈ lw_all := lw_g (lw_at lw_m7 211 rfl) rfl
theorem q1751 : (Jvm.Cond.methodLinkNest "RingDomino$Plain" (1 : Nat) ({ cls := "RingDomino$Sum", name := "<init>", desc := "()V" } : Jvm.MethodName) "RingDomino") ∈ lw_tbl := lw_at lw_m7 212 rfl
theorem q1755 : (Jvm.Cond.fieldLink "RingDomino$Plain" (7 : Nat) "RingDomino$Plain" "number" "I") ∈ lw_all := lw_g (lw_at lw_m7 216 rfl) rfl
theorem q1756 : (Jvm.Cond.laysFinal "RingDomino$Plain" "RingDomino$Plain" "number" "I") ∈ lw_all := lw_g (lw_at lw_m7 217 rfl) rfl
theorem q1757 : (Jvm.Cond.soleField "RingDomino$Plain" "number") ∈ lw_all := lw_g (lw_at lw_m7 218 rfl) rfl
theorem q1758 : (Jvm.Cond.superclass "RingDomino$Plain" "RingDomino$Sum") ∈ lw_all := lw_g (lw_at lw_m7 219 rfl) rfl
theorem q2229 : (Jvm.Cond.instanceMethod ({ cls := "RingDomino$Plain", name := "of", desc := "(LRingDomino$Game;)I" } : Jvm.MethodName)) ∈ lw_all := lw_g (lw_at lw_m9 210 rfl) rfl
theorem q2230 : (Jvm.Cond.code ({ cls := "RingDomino$Plain", name := "of", desc := "(LRingDomino$Game;)I" } : Jvm.MethodName) prog_16_method_2_code (2 : Nat) (Option.some Jvm.ClassFile.FieldType.int)) ∈ lw_all := lw_g (lw_at lw_m9 211 rfl) rfl
theorem q2257 : (Jvm.Cond.selects "RingDomino$Plain" ({ cls := "RingDomino$Sum", name := "of", desc := "(LRingDomino$Game;)I" } : Jvm.MethodName) ({ cls := "RingDomino$Plain", name := "of", desc := "(LRingDomino$Game;)I" } : Jvm.MethodName)) ∈ lw_all := lw_g (lw_at lw_m9 238 rfl) rfl
theorem q3426 : (Jvm.Cond.castable "RingDomino$Plain" "java/lang/Object") ∈ lw_tbl := lw_at lw_m14 207 rfl
theorem in_X13 : ∀ w ∈ wsX130, w ∈ lw_all := lw_in wsX130 [1756] (by decide +kernel) (by decide +kernel)

/-! RingDomino$Asked -/
def RX14 : String := "RingDomino$Asked"
def TX14 : u_T := fun k => match k with
  | 0 => ("RingDomino$Asked", "what", "LRingDomino$What;", true)
  | _ => ("RingDomino$Asked", "which", "I", true)
def tyX14 : Nat → FieldType := fun k => match k with
  | 0 => .object "RingDomino$What"
  | _ => .int
abbrev wsX140 : List Cond := u_ws RX14 TX14 2
theorem nmX14 : ∀ a, a < 2 → ∀ b, b < 2 → a ≠ b → (TX14 a).2.1 ≠ (TX14 b).2.1 := by decide +kernel
theorem tyX14_ok : ∀ k, k < 2 → parseFieldDescriptor (TX14 k).2.2.1 = some (tyX14 k) := by decide +kernel
abbrev cX14_init : ByteArray := prog_2_method_1_code
def yX14_init : MethodName := ⟨RX14, "<init>", "(LRingDomino$What;I)V"⟩
def dkwX14_init_0 : List UInt8 := [42, 183, 0, 1, 42, 43, 181, 0, 7, 42, 28, 181, 0, 13, 177]
abbrev dktX14_init_0 : List UInt8 := dkwX14_init_0 ++ []
theorem dksX14_init_0 : cX14_init.data.toList.drop 0 = dktX14_init_0 := by decide +kernel
theorem dX14_init_0 : decode cX14_init 0 = .ok (.aload_n 0, 1) := dk_42 (dk_at dksX14_init_0 0 rfl rfl)
theorem dX14_init_1 : decode cX14_init 1 = .ok (.invokespecial 1, 3) := dk_183 0 1 (dk_at dksX14_init_0 1 rfl rfl)
theorem dX14_init_4 : decode cX14_init 4 = .ok (.aload_n 0, 1) := dk_42 (dk_at dksX14_init_0 4 rfl rfl)
theorem dX14_init_5 : decode cX14_init 5 = .ok (.aload_n 1, 1) := dk_43 (dk_at dksX14_init_0 5 rfl rfl)
theorem dX14_init_6 : decode cX14_init 6 = .ok (.putfield 7, 3) := dk_181 0 7 (dk_at dksX14_init_0 6 rfl rfl)
theorem dX14_init_9 : decode cX14_init 9 = .ok (.aload_n 0, 1) := dk_42 (dk_at dksX14_init_0 9 rfl rfl)
theorem dX14_init_10 : decode cX14_init 10 = .ok (.iload_n 2, 1) := dk_28 (dk_at dksX14_init_0 10 rfl rfl)
theorem dX14_init_11 : decode cX14_init 11 = .ok (.putfield 13, 3) := dk_181 0 13 (dk_at dksX14_init_0 11 rfl rfl)
theorem dX14_init_14 : decode cX14_init 14 = .ok (.return_, 1) := dk_177 (dk_at dksX14_init_0 14 rfl rfl)
abbrev cX14_of : ByteArray := prog_2_method_2_code
def yX14_of : MethodName := ⟨RX14, "of", "(LRingDomino$Game;)I"⟩
def dkwX14_of_0 : List UInt8 := [42, 180, 0, 7, 43, 42, 180, 0, 13, 182, 0, 17, 172]
abbrev dktX14_of_0 : List UInt8 := dkwX14_of_0 ++ []
theorem dksX14_of_0 : cX14_of.data.toList.drop 0 = dktX14_of_0 := by decide +kernel
theorem dX14_of_0 : decode cX14_of 0 = .ok (.aload_n 0, 1) := dk_42 (dk_at dksX14_of_0 0 rfl rfl)
theorem dX14_of_1 : decode cX14_of 1 = .ok (.getfield 7, 3) := dk_180 0 7 (dk_at dksX14_of_0 1 rfl rfl)
theorem dX14_of_4 : decode cX14_of 4 = .ok (.aload_n 1, 1) := dk_43 (dk_at dksX14_of_0 4 rfl rfl)
theorem dX14_of_5 : decode cX14_of 5 = .ok (.aload_n 0, 1) := dk_42 (dk_at dksX14_of_0 5 rfl rfl)
theorem dX14_of_6 : decode cX14_of 6 = .ok (.getfield 13, 3) := dk_180 0 13 (dk_at dksX14_of_0 6 rfl rfl)
theorem dX14_of_9 : decode cX14_of 9 = .ok (.invokevirtual 17, 3) := dk_182 0 17 (dk_at dksX14_of_0 9 rfl rfl)
theorem dX14_of_12 : decode cX14_of 12 = .ok (.ireturn, 1) := dk_172 (dk_at dksX14_of_0 12 rfl rfl)
theorem q148 : (Jvm.Cond.initialized "RingDomino$Asked") ∈ lw_all := lw_g (lw_at lw_m1 49 rfl) rfl
theorem q786 : (Jvm.Cond.selects "RingDomino$Asked" ({ cls := "java/lang/Object", name := "getClass", desc := "()Ljava/lang/Class;" } : Jvm.MethodName) ({ cls := "java/lang/Object", name := "getClass", desc := "()Ljava/lang/Class;" } : Jvm.MethodName)) ∈ lw_all := lw_g (lw_at lw_m3 207 rfl) rfl
theorem q1044 : (Jvm.Cond.selects "RingDomino$Asked" ({ cls := "java/lang/Object", name := "hashCode", desc := "()I" } : Jvm.MethodName) ({ cls := "java/lang/Object", name := "hashCode", desc := "()I" } : Jvm.MethodName)) ∈ lw_all := lw_g (lw_at lw_m4 225 rfl) rfl
theorem q1164 : (Jvm.Cond.selects "RingDomino$Asked" ({ cls := "java/lang/Object", name := "equals", desc := "(Ljava/lang/Object;)Z" } : Jvm.MethodName) ({ cls := "java/lang/Object", name := "equals", desc := "(Ljava/lang/Object;)Z" } : Jvm.MethodName)) ∈ lw_all := lw_g (lw_at lw_m5 105 rfl) rfl
theorem q1777 : (Jvm.Cond.instantiable "RingDomino$Asked" (2 : Nat)) ∈ lw_all := lw_g (lw_at lw_m7 238 rfl) rfl
theorem q1786 : (Jvm.Cond.instanceMethod ({ cls := "RingDomino$Asked", name := "<init>", desc := "(LRingDomino$What;I)V" } : Jvm.MethodName)) ∈ lw_all := lw_g (lw_at lw_m8 7 rfl) rfl
theorem q1787 : (Jvm.Cond.code ({ cls := "RingDomino$Asked", name := "<init>", desc := "(LRingDomino$What;I)V" } : Jvm.MethodName) prog_2_method_1_code (3 : Nat) (Option.none : Option Jvm.ClassFile.FieldType)) ∈ lw_all := lw_g (lw_at lw_m8 8 rfl) rfl
theorem q1788 : (Jvm.Cond.methodLinkNest "RingDomino$Asked" (1 : Nat) ({ cls := "RingDomino$Sum", name := "<init>", desc := "()V" } : Jvm.MethodName) "RingDomino") ∈ lw_tbl := lw_at lw_m8 9 rfl
theorem q1789 : (Jvm.Cond.fieldLink "RingDomino$Asked" (7 : Nat) "RingDomino$Asked" "what" "LRingDomino$What;") ∈ lw_all := lw_g (lw_at lw_m8 10 rfl) rfl
theorem q1790 : (Jvm.Cond.fieldLink "RingDomino$Asked" (13 : Nat) "RingDomino$Asked" "which" "I") ∈ lw_all := lw_g (lw_at lw_m8 11 rfl) rfl
theorem q1791 : (Jvm.Cond.laysFinal "RingDomino$Asked" "RingDomino$Asked" "what" "LRingDomino$What;") ∈ lw_all := lw_g (lw_at lw_m8 12 rfl) rfl
theorem q1792 : (Jvm.Cond.soleField "RingDomino$Asked" "what") ∈ lw_all := lw_g (lw_at lw_m8 13 rfl) rfl
theorem q1793 : (Jvm.Cond.laysFinal "RingDomino$Asked" "RingDomino$Asked" "which" "I") ∈ lw_all := lw_g (lw_at lw_m8 14 rfl) rfl
theorem q1794 : (Jvm.Cond.soleField "RingDomino$Asked" "which") ∈ lw_all := lw_g (lw_at lw_m8 15 rfl) rfl
theorem q1795 : (Jvm.Cond.superclass "RingDomino$Asked" "RingDomino$Sum") ∈ lw_all := lw_g (lw_at lw_m8 16 rfl) rfl
theorem q2175 : (Jvm.Cond.selects "RingDomino$Asked" ({ cls := "RingDomino$Sum", name := "of", desc := "(LRingDomino$Game;)I" } : Jvm.MethodName) ({ cls := "RingDomino$Asked", name := "of", desc := "(LRingDomino$Game;)I" } : Jvm.MethodName)) ∈ lw_all := lw_g (lw_at lw_m9 156 rfl) rfl
theorem q2176 : (Jvm.Cond.instanceMethod ({ cls := "RingDomino$Asked", name := "of", desc := "(LRingDomino$Game;)I" } : Jvm.MethodName)) ∈ lw_all := lw_g (lw_at lw_m9 157 rfl) rfl
theorem q2177 : (Jvm.Cond.code ({ cls := "RingDomino$Asked", name := "of", desc := "(LRingDomino$Game;)I" } : Jvm.MethodName) prog_2_method_2_code (2 : Nat) (Option.some Jvm.ClassFile.FieldType.int)) ∈ lw_all := lw_g (lw_at lw_m9 158 rfl) rfl
theorem q2178 : (Jvm.Cond.methodLink "RingDomino$Asked" (17 : Nat) ({ cls := "RingDomino$What", name := "of", desc := "(LRingDomino$Game;I)I" } : Jvm.MethodName)) ∈ lw_all := lw_g (lw_at lw_m9 159 rfl) rfl
theorem q3434 : (Jvm.Cond.castable "RingDomino$Asked" "java/lang/Object") ∈ lw_tbl := lw_at lw_m14 215 rfl
theorem in_X14 : ∀ w ∈ wsX140, w ∈ lw_all := lw_in wsX140 [1791, 1793] (by decide +kernel) (by decide +kernel)

/-! RingDomino$Turned -/
def RX15 : String := "RingDomino$Turned"
def TX15 : u_T := fun k => match k with
  | _ => ("RingDomino$Turned", "sum", "LRingDomino$Sum;", true)
def tyX15 : Nat → FieldType := fun k => match k with
  | _ => .object "RingDomino$Sum"
abbrev wsX150 : List Cond := u_ws RX15 TX15 1
theorem nmX15 : ∀ a, a < 1 → ∀ b, b < 1 → a ≠ b → (TX15 a).2.1 ≠ (TX15 b).2.1 := by decide +kernel
theorem tyX15_ok : ∀ k, k < 1 → parseFieldDescriptor (TX15 k).2.2.1 = some (tyX15 k) := by decide +kernel
abbrev cX15_init : ByteArray := prog_34_method_1_code
def yX15_init : MethodName := ⟨RX15, "<init>", "(LRingDomino$Sum;)V"⟩
def dkwX15_init_0 : List UInt8 := [42, 183, 0, 1, 42, 43, 181, 0, 7, 177]
abbrev dktX15_init_0 : List UInt8 := dkwX15_init_0 ++ []
theorem dksX15_init_0 : cX15_init.data.toList.drop 0 = dktX15_init_0 := by decide +kernel
theorem dX15_init_0 : decode cX15_init 0 = .ok (.aload_n 0, 1) := dk_42 (dk_at dksX15_init_0 0 rfl rfl)
theorem dX15_init_1 : decode cX15_init 1 = .ok (.invokespecial 1, 3) := dk_183 0 1 (dk_at dksX15_init_0 1 rfl rfl)
theorem dX15_init_4 : decode cX15_init 4 = .ok (.aload_n 0, 1) := dk_42 (dk_at dksX15_init_0 4 rfl rfl)
theorem dX15_init_5 : decode cX15_init 5 = .ok (.aload_n 1, 1) := dk_43 (dk_at dksX15_init_0 5 rfl rfl)
theorem dX15_init_6 : decode cX15_init 6 = .ok (.putfield 7, 3) := dk_181 0 7 (dk_at dksX15_init_0 6 rfl rfl)
theorem dX15_init_9 : decode cX15_init 9 = .ok (.return_, 1) := dk_177 (dk_at dksX15_init_0 9 rfl rfl)
abbrev cX15_of : ByteArray := prog_34_method_2_code
def yX15_of : MethodName := ⟨RX15, "of", "(LRingDomino$Game;)I"⟩
def dkwX15_of_0 : List UInt8 := [42, 180, 0, 7, 43, 182, 0, 13, 116, 172]
abbrev dktX15_of_0 : List UInt8 := dkwX15_of_0 ++ []
theorem dksX15_of_0 : cX15_of.data.toList.drop 0 = dktX15_of_0 := by decide +kernel
theorem dX15_of_0 : decode cX15_of 0 = .ok (.aload_n 0, 1) := dk_42 (dk_at dksX15_of_0 0 rfl rfl)
theorem dX15_of_1 : decode cX15_of 1 = .ok (.getfield 7, 3) := dk_180 0 7 (dk_at dksX15_of_0 1 rfl rfl)
theorem dX15_of_4 : decode cX15_of 4 = .ok (.aload_n 1, 1) := dk_43 (dk_at dksX15_of_0 4 rfl rfl)
theorem dX15_of_5 : decode cX15_of 5 = .ok (.invokevirtual 13, 3) := dk_182 0 13 (dk_at dksX15_of_0 5 rfl rfl)
theorem dX15_of_8 : decode cX15_of 8 = .ok (.ineg, 1) := dk_116 (dk_at dksX15_of_0 8 rfl rfl)
theorem dX15_of_9 : decode cX15_of 9 = .ok (.ireturn, 1) := dk_172 (dk_at dksX15_of_0 9 rfl rfl)
theorem q150 : (Jvm.Cond.initialized "RingDomino$Turned") ∈ lw_all := lw_g (lw_at lw_m1 51 rfl) rfl
theorem q814 : (Jvm.Cond.selects "RingDomino$Turned" ({ cls := "java/lang/Object", name := "getClass", desc := "()Ljava/lang/Class;" } : Jvm.MethodName) ({ cls := "java/lang/Object", name := "getClass", desc := "()Ljava/lang/Class;" } : Jvm.MethodName)) ∈ lw_all := lw_g (lw_at lw_m3 235 rfl) rfl
theorem q1077 : (Jvm.Cond.selects "RingDomino$Turned" ({ cls := "java/lang/Object", name := "hashCode", desc := "()I" } : Jvm.MethodName) ({ cls := "java/lang/Object", name := "hashCode", desc := "()I" } : Jvm.MethodName)) ∈ lw_all := lw_g (lw_at lw_m5 18 rfl) rfl
theorem q1194 : (Jvm.Cond.selects "RingDomino$Turned" ({ cls := "java/lang/Object", name := "equals", desc := "(Ljava/lang/Object;)Z" } : Jvm.MethodName) ({ cls := "java/lang/Object", name := "equals", desc := "(Ljava/lang/Object;)Z" } : Jvm.MethodName)) ∈ lw_all := lw_g (lw_at lw_m5 135 rfl) rfl
theorem q1802 : (Jvm.Cond.instantiable "RingDomino$Turned" (1 : Nat)) ∈ lw_all := lw_g (lw_at lw_m8 23 rfl) rfl
theorem q1804 : (Jvm.Cond.instanceMethod ({ cls := "RingDomino$Turned", name := "<init>", desc := "(LRingDomino$Sum;)V" } : Jvm.MethodName)) ∈ lw_all := lw_g (lw_at lw_m8 25 rfl) rfl
theorem q1805 : (Jvm.Cond.code ({ cls := "RingDomino$Turned", name := "<init>", desc := "(LRingDomino$Sum;)V" } : Jvm.MethodName) prog_34_method_1_code (2 : Nat) (Option.none : Option Jvm.ClassFile.FieldType)) ∈ lw_all := lw_g (lw_at lw_m8 26 rfl) rfl
theorem q1806 : (Jvm.Cond.methodLinkNest "RingDomino$Turned" (1 : Nat) ({ cls := "RingDomino$Sum", name := "<init>", desc := "()V" } : Jvm.MethodName) "RingDomino") ∈ lw_tbl := lw_at lw_m8 27 rfl
theorem q1807 : (Jvm.Cond.fieldLink "RingDomino$Turned" (7 : Nat) "RingDomino$Turned" "sum" "LRingDomino$Sum;") ∈ lw_all := lw_g (lw_at lw_m8 28 rfl) rfl
theorem q1808 : (Jvm.Cond.laysFinal "RingDomino$Turned" "RingDomino$Turned" "sum" "LRingDomino$Sum;") ∈ lw_all := lw_g (lw_at lw_m8 29 rfl) rfl
theorem q1809 : (Jvm.Cond.soleField "RingDomino$Turned" "sum") ∈ lw_all := lw_g (lw_at lw_m8 30 rfl) rfl
theorem q1810 : (Jvm.Cond.superclass "RingDomino$Turned" "RingDomino$Sum") ∈ lw_all := lw_g (lw_at lw_m8 31 rfl) rfl
theorem q2231 : (Jvm.Cond.instanceMethod ({ cls := "RingDomino$Turned", name := "of", desc := "(LRingDomino$Game;)I" } : Jvm.MethodName)) ∈ lw_all := lw_g (lw_at lw_m9 212 rfl) rfl
theorem q2232 : (Jvm.Cond.code ({ cls := "RingDomino$Turned", name := "of", desc := "(LRingDomino$Game;)I" } : Jvm.MethodName) prog_34_method_2_code (2 : Nat) (Option.some Jvm.ClassFile.FieldType.int)) ∈ lw_all := lw_g (lw_at lw_m9 213 rfl) rfl
theorem q2233 : (Jvm.Cond.methodLink "RingDomino$Turned" (13 : Nat) ({ cls := "RingDomino$Sum", name := "of", desc := "(LRingDomino$Game;)I" } : Jvm.MethodName)) ∈ lw_all := lw_g (lw_at lw_m9 214 rfl) rfl
theorem q2258 : (Jvm.Cond.selects "RingDomino$Turned" ({ cls := "RingDomino$Sum", name := "of", desc := "(LRingDomino$Game;)I" } : Jvm.MethodName) ({ cls := "RingDomino$Turned", name := "of", desc := "(LRingDomino$Game;)I" } : Jvm.MethodName)) ∈ lw_all := lw_g (lw_at lw_m9 239 rfl) rfl
theorem q3436 : (Jvm.Cond.castable "RingDomino$Turned" "java/lang/Object") ∈ lw_tbl := lw_at lw_m14 217 rfl
theorem in_X15 : ∀ w ∈ wsX150, w ∈ lw_all := lw_in wsX150 [1808] (by decide +kernel) (by decide +kernel)

/-! RingDomino$Joined -/
def RX16 : String := "RingDomino$Joined"
def TX16 : u_T := fun k => match k with
  | 0 => ("RingDomino$Joined", "sign", "LRingDomino$Sign;", true)
  | 1 => ("RingDomino$Joined", "left", "LRingDomino$Sum;", true)
  | _ => ("RingDomino$Joined", "right", "LRingDomino$Sum;", true)
def tyX16 : Nat → FieldType := fun k => match k with
  | 0 => .object "RingDomino$Sign"
  | 1 => .object "RingDomino$Sum"
  | _ => .object "RingDomino$Sum"
abbrev wsX160 : List Cond := u_ws RX16 TX16 3
theorem nmX16 : ∀ a, a < 3 → ∀ b, b < 3 → a ≠ b → (TX16 a).2.1 ≠ (TX16 b).2.1 := by decide +kernel
theorem tyX16_ok : ∀ k, k < 3 → parseFieldDescriptor (TX16 k).2.2.1 = some (tyX16 k) := by decide +kernel
abbrev cX16_init : ByteArray := prog_12_method_1_code
def yX16_init : MethodName := ⟨RX16, "<init>", "(LRingDomino$Sign;LRingDomino$Sum;LRingDomino$Sum;)V"⟩
def dkwX16_init_0 : List UInt8 := [42, 183, 0, 1, 42, 43, 181, 0, 7, 42, 44, 181, 0, 13, 42, 45, 181, 0, 17, 177]
abbrev dktX16_init_0 : List UInt8 := dkwX16_init_0 ++ []
theorem dksX16_init_0 : cX16_init.data.toList.drop 0 = dktX16_init_0 := by decide +kernel
theorem dX16_init_0 : decode cX16_init 0 = .ok (.aload_n 0, 1) := dk_42 (dk_at dksX16_init_0 0 rfl rfl)
theorem dX16_init_1 : decode cX16_init 1 = .ok (.invokespecial 1, 3) := dk_183 0 1 (dk_at dksX16_init_0 1 rfl rfl)
theorem dX16_init_4 : decode cX16_init 4 = .ok (.aload_n 0, 1) := dk_42 (dk_at dksX16_init_0 4 rfl rfl)
theorem dX16_init_5 : decode cX16_init 5 = .ok (.aload_n 1, 1) := dk_43 (dk_at dksX16_init_0 5 rfl rfl)
theorem dX16_init_6 : decode cX16_init 6 = .ok (.putfield 7, 3) := dk_181 0 7 (dk_at dksX16_init_0 6 rfl rfl)
theorem dX16_init_9 : decode cX16_init 9 = .ok (.aload_n 0, 1) := dk_42 (dk_at dksX16_init_0 9 rfl rfl)
theorem dX16_init_10 : decode cX16_init 10 = .ok (.aload_n 2, 1) := dk_44 (dk_at dksX16_init_0 10 rfl rfl)
theorem dX16_init_11 : decode cX16_init 11 = .ok (.putfield 13, 3) := dk_181 0 13 (dk_at dksX16_init_0 11 rfl rfl)
theorem dX16_init_14 : decode cX16_init 14 = .ok (.aload_n 0, 1) := dk_42 (dk_at dksX16_init_0 14 rfl rfl)
theorem dX16_init_15 : decode cX16_init 15 = .ok (.aload_n 3, 1) := dk_45 (dk_at dksX16_init_0 15 rfl rfl)
theorem dX16_init_16 : decode cX16_init 16 = .ok (.putfield 17, 3) := dk_181 0 17 (dk_at dksX16_init_0 16 rfl rfl)
theorem dX16_init_19 : decode cX16_init 19 = .ok (.return_, 1) := dk_177 (dk_at dksX16_init_0 19 rfl rfl)
abbrev cX16_of : ByteArray := prog_12_method_2_code
def yX16_of : MethodName := ⟨RX16, "of", "(LRingDomino$Game;)I"⟩
def dkwX16_of_0 : List UInt8 := [42, 180, 0, 7, 42, 180, 0, 13, 43, 182, 0, 20, 42, 180, 0, 17, 43, 182, 0, 20, 182, 0, 24, 172]
abbrev dktX16_of_0 : List UInt8 := dkwX16_of_0 ++ []
theorem dksX16_of_0 : cX16_of.data.toList.drop 0 = dktX16_of_0 := by decide +kernel
theorem dX16_of_0 : decode cX16_of 0 = .ok (.aload_n 0, 1) := dk_42 (dk_at dksX16_of_0 0 rfl rfl)
theorem dX16_of_1 : decode cX16_of 1 = .ok (.getfield 7, 3) := dk_180 0 7 (dk_at dksX16_of_0 1 rfl rfl)
theorem dX16_of_4 : decode cX16_of 4 = .ok (.aload_n 0, 1) := dk_42 (dk_at dksX16_of_0 4 rfl rfl)
theorem dX16_of_5 : decode cX16_of 5 = .ok (.getfield 13, 3) := dk_180 0 13 (dk_at dksX16_of_0 5 rfl rfl)
theorem dX16_of_8 : decode cX16_of 8 = .ok (.aload_n 1, 1) := dk_43 (dk_at dksX16_of_0 8 rfl rfl)
theorem dX16_of_9 : decode cX16_of 9 = .ok (.invokevirtual 20, 3) := dk_182 0 20 (dk_at dksX16_of_0 9 rfl rfl)
theorem dX16_of_12 : decode cX16_of 12 = .ok (.aload_n 0, 1) := dk_42 (dk_at dksX16_of_0 12 rfl rfl)
theorem dX16_of_13 : decode cX16_of 13 = .ok (.getfield 17, 3) := dk_180 0 17 (dk_at dksX16_of_0 13 rfl rfl)
theorem dX16_of_16 : decode cX16_of 16 = .ok (.aload_n 1, 1) := dk_43 (dk_at dksX16_of_0 16 rfl rfl)
theorem dX16_of_17 : decode cX16_of 17 = .ok (.invokevirtual 20, 3) := dk_182 0 20 (dk_at dksX16_of_0 17 rfl rfl)
theorem dX16_of_20 : decode cX16_of 20 = .ok (.invokevirtual 24, 3) := dk_182 0 24 (dk_at dksX16_of_0 20 rfl rfl)
theorem dX16_of_23 : decode cX16_of 23 = .ok (.ireturn, 1) := dk_172 (dk_at dksX16_of_0 23 rfl rfl)
theorem q152 : (Jvm.Cond.initialized "RingDomino$Joined") ∈ lw_all := lw_g (lw_at lw_m1 53 rfl) rfl
theorem q795 : (Jvm.Cond.selects "RingDomino$Joined" ({ cls := "java/lang/Object", name := "getClass", desc := "()Ljava/lang/Class;" } : Jvm.MethodName) ({ cls := "java/lang/Object", name := "getClass", desc := "()Ljava/lang/Class;" } : Jvm.MethodName)) ∈ lw_all := lw_g (lw_at lw_m3 216 rfl) rfl
theorem q1058 : (Jvm.Cond.selects "RingDomino$Joined" ({ cls := "java/lang/Object", name := "hashCode", desc := "()I" } : Jvm.MethodName) ({ cls := "java/lang/Object", name := "hashCode", desc := "()I" } : Jvm.MethodName)) ∈ lw_all := lw_g (lw_at lw_m4 239 rfl) rfl
theorem q1175 : (Jvm.Cond.selects "RingDomino$Joined" ({ cls := "java/lang/Object", name := "equals", desc := "(Ljava/lang/Object;)Z" } : Jvm.MethodName) ({ cls := "java/lang/Object", name := "equals", desc := "(Ljava/lang/Object;)Z" } : Jvm.MethodName)) ∈ lw_all := lw_g (lw_at lw_m5 116 rfl) rfl
theorem q1818 : (Jvm.Cond.instantiable "RingDomino$Joined" (3 : Nat)) ∈ lw_all := lw_g (lw_at lw_m8 39 rfl) rfl
theorem q1820 : (Jvm.Cond.instanceMethod ({ cls := "RingDomino$Joined", name := "<init>", desc := "(LRingDomino$Sign;LRingDomino$Sum;LRingDomino$Sum;)V" } : Jvm.MethodName)) ∈ lw_all := lw_g (lw_at lw_m8 41 rfl) rfl
theorem q1821 : (Jvm.Cond.code ({ cls := "RingDomino$Joined", name := "<init>", desc := "(LRingDomino$Sign;LRingDomino$Sum;LRingDomino$Sum;)V" } : Jvm.MethodName) prog_12_method_1_code (4 : Nat) (Option.none : Option Jvm.ClassFile.FieldType)) ∈ lw_all := lw_g (lw_at lw_m8 42 rfl) rfl
theorem q1822 : (Jvm.Cond.methodLinkNest "RingDomino$Joined" (1 : Nat) ({ cls := "RingDomino$Sum", name := "<init>", desc := "()V" } : Jvm.MethodName) "RingDomino") ∈ lw_tbl := lw_at lw_m8 43 rfl
theorem q1823 : (Jvm.Cond.fieldLink "RingDomino$Joined" (7 : Nat) "RingDomino$Joined" "sign" "LRingDomino$Sign;") ∈ lw_all := lw_g (lw_at lw_m8 44 rfl) rfl
theorem q1824 : (Jvm.Cond.fieldLink "RingDomino$Joined" (13 : Nat) "RingDomino$Joined" "left" "LRingDomino$Sum;") ∈ lw_all := lw_g (lw_at lw_m8 45 rfl) rfl
theorem q1825 : (Jvm.Cond.fieldLink "RingDomino$Joined" (17 : Nat) "RingDomino$Joined" "right" "LRingDomino$Sum;") ∈ lw_all := lw_g (lw_at lw_m8 46 rfl) rfl
theorem q1826 : (Jvm.Cond.laysFinal "RingDomino$Joined" "RingDomino$Joined" "sign" "LRingDomino$Sign;") ∈ lw_all := lw_g (lw_at lw_m8 47 rfl) rfl
theorem q1827 : (Jvm.Cond.soleField "RingDomino$Joined" "sign") ∈ lw_all := lw_g (lw_at lw_m8 48 rfl) rfl
theorem q1828 : (Jvm.Cond.laysFinal "RingDomino$Joined" "RingDomino$Joined" "left" "LRingDomino$Sum;") ∈ lw_all := lw_g (lw_at lw_m8 49 rfl) rfl
theorem q1829 : (Jvm.Cond.soleField "RingDomino$Joined" "left") ∈ lw_all := lw_g (lw_at lw_m8 50 rfl) rfl
theorem q1830 : (Jvm.Cond.laysFinal "RingDomino$Joined" "RingDomino$Joined" "right" "LRingDomino$Sum;") ∈ lw_all := lw_g (lw_at lw_m8 51 rfl) rfl
theorem q1831 : (Jvm.Cond.soleField "RingDomino$Joined" "right") ∈ lw_all := lw_g (lw_at lw_m8 52 rfl) rfl
theorem q1832 : (Jvm.Cond.superclass "RingDomino$Joined" "RingDomino$Sum") ∈ lw_all := lw_g (lw_at lw_m8 53 rfl) rfl
theorem q2225 : (Jvm.Cond.selects "RingDomino$Joined" ({ cls := "RingDomino$Sum", name := "of", desc := "(LRingDomino$Game;)I" } : Jvm.MethodName) ({ cls := "RingDomino$Joined", name := "of", desc := "(LRingDomino$Game;)I" } : Jvm.MethodName)) ∈ lw_all := lw_g (lw_at lw_m9 206 rfl) rfl
theorem q2226 : (Jvm.Cond.instanceMethod ({ cls := "RingDomino$Joined", name := "of", desc := "(LRingDomino$Game;)I" } : Jvm.MethodName)) ∈ lw_all := lw_g (lw_at lw_m9 207 rfl) rfl
theorem q2227 : (Jvm.Cond.code ({ cls := "RingDomino$Joined", name := "of", desc := "(LRingDomino$Game;)I" } : Jvm.MethodName) prog_12_method_2_code (2 : Nat) (Option.some Jvm.ClassFile.FieldType.int)) ∈ lw_all := lw_g (lw_at lw_m9 208 rfl) rfl
theorem q2228 : (Jvm.Cond.methodLink "RingDomino$Joined" (20 : Nat) ({ cls := "RingDomino$Sum", name := "of", desc := "(LRingDomino$Game;)I" } : Jvm.MethodName)) ∈ lw_all := lw_g (lw_at lw_m9 209 rfl) rfl
theorem q2234 : (Jvm.Cond.methodLink "RingDomino$Joined" (24 : Nat) ({ cls := "RingDomino$Sign", name := "join", desc := "(II)I" } : Jvm.MethodName)) ∈ lw_all := lw_g (lw_at lw_m9 215 rfl) rfl
theorem q3439 : (Jvm.Cond.castable "RingDomino$Joined" "java/lang/Object") ∈ lw_tbl := lw_at lw_m14 220 rfl
theorem in_X16 : ∀ w ∈ wsX160, w ∈ lw_all := lw_in wsX160 [1826, 1828, 1830] (by decide +kernel) (by decide +kernel)

/-! RingDomino$Order -/
def RX17 : String := "RingDomino$Order"
def TX17 : u_T := fun k => match k with
  | 0 => ("RingDomino$Order", "craft", "LRingDomino$Craft;", true)
  | 1 => ("RingDomino$Order", "tile", "I", true)
  | 2 => ("RingDomino$Order", "column", "LRingDomino$Sum;", true)
  | 3 => ("RingDomino$Order", "row", "LRingDomino$Sum;", true)
  | 4 => ("RingDomino$Order", "turn", "LRingDomino$Sum;", true)
  | _ => ("RingDomino$Order", "test", "LRingDomino$Test;", true)
def tyX17 : Nat → FieldType := fun k => match k with
  | 0 => .object "RingDomino$Craft"
  | 1 => .int
  | 2 => .object "RingDomino$Sum"
  | 3 => .object "RingDomino$Sum"
  | 4 => .object "RingDomino$Sum"
  | _ => .object "RingDomino$Test"
abbrev wsX170 : List Cond := u_ws RX17 TX17 6
theorem nmX17 : ∀ a, a < 6 → ∀ b, b < 6 → a ≠ b → (TX17 a).2.1 ≠ (TX17 b).2.1 := by decide +kernel
theorem tyX17_ok : ∀ k, k < 6 → parseFieldDescriptor (TX17 k).2.2.1 = some (tyX17 k) := by decide +kernel
abbrev cX17_init : ByteArray := prog_15_method_1_code
def yX17_init : MethodName := ⟨RX17, "<init>", "(LRingDomino$Craft;ILRingDomino$Sum;LRingDomino$Sum;LRingDomino$Sum;LRingDomino$Test;)V"⟩
def dkwX17_init_1 : List UInt8 := [181, 0, 21, 42, 25, 5, 181, 0, 24, 42, 25, 6, 181, 0, 27, 177]
abbrev dktX17_init_1 : List UInt8 := dkwX17_init_1 ++ []
def dkwX17_init_0 : List UInt8 := [42, 183, 0, 1, 42, 43, 181, 0, 7, 42, 28, 181, 0, 13, 42, 45, 181, 0, 17, 42, 25, 4]
abbrev dktX17_init_0 : List UInt8 := dkwX17_init_0 ++ dktX17_init_1
theorem dksX17_init_0 : cX17_init.data.toList.drop 0 = dktX17_init_0 := by decide +kernel
theorem dksX17_init_1 : cX17_init.data.toList.drop 22 = dktX17_init_1 := dk_seg dksX17_init_0 22 rfl rfl
theorem dX17_init_0 : decode cX17_init 0 = .ok (.aload_n 0, 1) := dk_42 (dk_at dksX17_init_0 0 rfl rfl)
theorem dX17_init_1 : decode cX17_init 1 = .ok (.invokespecial 1, 3) := dk_183 0 1 (dk_at dksX17_init_0 1 rfl rfl)
theorem dX17_init_4 : decode cX17_init 4 = .ok (.aload_n 0, 1) := dk_42 (dk_at dksX17_init_0 4 rfl rfl)
theorem dX17_init_5 : decode cX17_init 5 = .ok (.aload_n 1, 1) := dk_43 (dk_at dksX17_init_0 5 rfl rfl)
theorem dX17_init_6 : decode cX17_init 6 = .ok (.putfield 7, 3) := dk_181 0 7 (dk_at dksX17_init_0 6 rfl rfl)
theorem dX17_init_9 : decode cX17_init 9 = .ok (.aload_n 0, 1) := dk_42 (dk_at dksX17_init_0 9 rfl rfl)
theorem dX17_init_10 : decode cX17_init 10 = .ok (.iload_n 2, 1) := dk_28 (dk_at dksX17_init_0 10 rfl rfl)
theorem dX17_init_11 : decode cX17_init 11 = .ok (.putfield 13, 3) := dk_181 0 13 (dk_at dksX17_init_0 11 rfl rfl)
theorem dX17_init_14 : decode cX17_init 14 = .ok (.aload_n 0, 1) := dk_42 (dk_at dksX17_init_0 14 rfl rfl)
theorem dX17_init_15 : decode cX17_init 15 = .ok (.aload_n 3, 1) := dk_45 (dk_at dksX17_init_0 15 rfl rfl)
theorem dX17_init_16 : decode cX17_init 16 = .ok (.putfield 17, 3) := dk_181 0 17 (dk_at dksX17_init_0 16 rfl rfl)
theorem dX17_init_19 : decode cX17_init 19 = .ok (.aload_n 0, 1) := dk_42 (dk_at dksX17_init_0 19 rfl rfl)
theorem dX17_init_20 : decode cX17_init 20 = .ok (.aload 4, 2) := dk_25 4 (dk_at dksX17_init_0 20 rfl rfl)
theorem dX17_init_22 : decode cX17_init 22 = .ok (.putfield 21, 3) := dk_181 0 21 (dk_at dksX17_init_1 0 rfl rfl)
theorem dX17_init_25 : decode cX17_init 25 = .ok (.aload_n 0, 1) := dk_42 (dk_at dksX17_init_1 3 rfl rfl)
theorem dX17_init_26 : decode cX17_init 26 = .ok (.aload 5, 2) := dk_25 5 (dk_at dksX17_init_1 4 rfl rfl)
theorem dX17_init_28 : decode cX17_init 28 = .ok (.putfield 24, 3) := dk_181 0 24 (dk_at dksX17_init_1 6 rfl rfl)
theorem dX17_init_31 : decode cX17_init 31 = .ok (.aload_n 0, 1) := dk_42 (dk_at dksX17_init_1 9 rfl rfl)
theorem dX17_init_32 : decode cX17_init 32 = .ok (.aload 6, 2) := dk_25 6 (dk_at dksX17_init_1 10 rfl rfl)
theorem dX17_init_34 : decode cX17_init 34 = .ok (.putfield 27, 3) := dk_181 0 27 (dk_at dksX17_init_1 12 rfl rfl)
theorem dX17_init_37 : decode cX17_init 37 = .ok (.return_, 1) := dk_177 (dk_at dksX17_init_1 15 rfl rfl)
theorem q153 : (Jvm.Cond.initialized "RingDomino$Order") ∈ lw_all := lw_g (lw_at lw_m1 54 rfl) rfl
theorem q798 : (Jvm.Cond.selects "RingDomino$Order" ({ cls := "java/lang/Object", name := "getClass", desc := "()Ljava/lang/Class;" } : Jvm.MethodName) ({ cls := "java/lang/Object", name := "getClass", desc := "()Ljava/lang/Class;" } : Jvm.MethodName)) ∈ lw_all := lw_g (lw_at lw_m3 219 rfl) rfl
theorem q1061 : (Jvm.Cond.selects "RingDomino$Order" ({ cls := "java/lang/Object", name := "hashCode", desc := "()I" } : Jvm.MethodName) ({ cls := "java/lang/Object", name := "hashCode", desc := "()I" } : Jvm.MethodName)) ∈ lw_all := lw_g (lw_at lw_m5 2 rfl) rfl
theorem q1178 : (Jvm.Cond.selects "RingDomino$Order" ({ cls := "java/lang/Object", name := "equals", desc := "(Ljava/lang/Object;)Z" } : Jvm.MethodName) ({ cls := "java/lang/Object", name := "equals", desc := "(Ljava/lang/Object;)Z" } : Jvm.MethodName)) ∈ lw_all := lw_g (lw_at lw_m5 119 rfl) rfl
theorem q1851 : (Jvm.Cond.instantiable "RingDomino$Order" (6 : Nat)) ∈ lw_all := lw_g (lw_at lw_m8 72 rfl) rfl
theorem q1950 : (Jvm.Cond.instanceMethod ({ cls := "RingDomino$Order", name := "<init>", desc := "(LRingDomino$Craft;ILRingDomino$Sum;LRingDomino$Sum;LRingDomino$Sum;LRingDomino$Test;)V" } : Jvm.MethodName)) ∈ lw_all := lw_g (lw_at lw_m8 171 rfl) rfl
theorem q1951 : (Jvm.Cond.code ({ cls := "RingDomino$Order", name := "<init>", desc := "(LRingDomino$Craft;ILRingDomino$Sum;LRingDomino$Sum;LRingDomino$Sum;LRingDomino$Test;)V" } : Jvm.MethodName) prog_15_method_1_code (7 : Nat) (Option.none : Option Jvm.ClassFile.FieldType)) ∈ lw_all := lw_g (lw_at lw_m8 172 rfl) rfl
theorem q1952 : (Jvm.Cond.methodLink "RingDomino$Order" (1 : Nat) ({ cls := "java/lang/Object", name := "<init>", desc := "()V" } : Jvm.MethodName)) ∈ lw_all := lw_g (lw_at lw_m8 173 rfl) rfl
theorem q1953 : (Jvm.Cond.fieldLink "RingDomino$Order" (7 : Nat) "RingDomino$Order" "craft" "LRingDomino$Craft;") ∈ lw_all := lw_g (lw_at lw_m8 174 rfl) rfl
theorem q1955 : (Jvm.Cond.fieldLink "RingDomino$Order" (13 : Nat) "RingDomino$Order" "tile" "I") ∈ lw_all := lw_g (lw_at lw_m8 176 rfl) rfl
theorem q1959 : (Jvm.Cond.fieldLink "RingDomino$Order" (17 : Nat) "RingDomino$Order" "column" "LRingDomino$Sum;") ∈ lw_all := lw_g (lw_at lw_m8 180 rfl) rfl
theorem q1961 : (Jvm.Cond.fieldLink "RingDomino$Order" (21 : Nat) "RingDomino$Order" "row" "LRingDomino$Sum;") ∈ lw_all := lw_g (lw_at lw_m8 182 rfl) rfl
theorem q1963 : (Jvm.Cond.fieldLink "RingDomino$Order" (24 : Nat) "RingDomino$Order" "turn" "LRingDomino$Sum;") ∈ lw_all := lw_g (lw_at lw_m8 184 rfl) rfl
theorem q1965 : (Jvm.Cond.fieldLink "RingDomino$Order" (27 : Nat) "RingDomino$Order" "test" "LRingDomino$Test;") ∈ lw_all := lw_g (lw_at lw_m8 186 rfl) rfl
theorem q1967 : (Jvm.Cond.laysFinal "RingDomino$Order" "RingDomino$Order" "craft" "LRingDomino$Craft;") ∈ lw_all := lw_g (lw_at lw_m8 188 rfl) rfl
theorem q1968 : (Jvm.Cond.soleField "RingDomino$Order" "craft") ∈ lw_all := lw_g (lw_at lw_m8 189 rfl) rfl
theorem q1969 : (Jvm.Cond.laysFinal "RingDomino$Order" "RingDomino$Order" "tile" "I") ∈ lw_all := lw_g (lw_at lw_m8 190 rfl) rfl
theorem q1970 : (Jvm.Cond.soleField "RingDomino$Order" "tile") ∈ lw_all := lw_g (lw_at lw_m8 191 rfl) rfl
theorem q1971 : (Jvm.Cond.laysFinal "RingDomino$Order" "RingDomino$Order" "column" "LRingDomino$Sum;") ∈ lw_all := lw_g (lw_at lw_m8 192 rfl) rfl
theorem q1972 : (Jvm.Cond.soleField "RingDomino$Order" "column") ∈ lw_all := lw_g (lw_at lw_m8 193 rfl) rfl
theorem q1973 : (Jvm.Cond.laysFinal "RingDomino$Order" "RingDomino$Order" "row" "LRingDomino$Sum;") ∈ lw_all := lw_g (lw_at lw_m8 194 rfl) rfl
theorem q1974 : (Jvm.Cond.soleField "RingDomino$Order" "row") ∈ lw_all := lw_g (lw_at lw_m8 195 rfl) rfl
theorem q1975 : (Jvm.Cond.laysFinal "RingDomino$Order" "RingDomino$Order" "turn" "LRingDomino$Sum;") ∈ lw_all := lw_g (lw_at lw_m8 196 rfl) rfl
theorem q1976 : (Jvm.Cond.soleField "RingDomino$Order" "turn") ∈ lw_all := lw_g (lw_at lw_m8 197 rfl) rfl
theorem q1977 : (Jvm.Cond.laysFinal "RingDomino$Order" "RingDomino$Order" "test" "LRingDomino$Test;") ∈ lw_all := lw_g (lw_at lw_m8 198 rfl) rfl
theorem q1978 : (Jvm.Cond.soleField "RingDomino$Order" "test") ∈ lw_all := lw_g (lw_at lw_m8 199 rfl) rfl
theorem q1979 : (Jvm.Cond.superclass "RingDomino$Order" "java/lang/Object") ∈ lw_all := lw_g (lw_at lw_m8 200 rfl) rfl
theorem q3444 : (Jvm.Cond.castable "RingDomino$Order" "java/lang/Object") ∈ lw_tbl := lw_at lw_m14 225 rfl
theorem in_X17 : ∀ w ∈ wsX170, w ∈ lw_all := lw_in wsX170 [1967, 1969, 1971, 1973, 1975, 1977] (by decide +kernel) (by decide +kernel)

/-! RingDomino$Several -/
def RX18 : String := "RingDomino$Several"
def TX18 : u_T := fun k => match k with
  | 0 => ("RingDomino$Several", "isAll", "Z", true)
  | _ => ("RingDomino$Several", "tests", "Ljava/util/ArrayList;", true)
def tyX18 : Nat → FieldType := fun k => match k with
  | 0 => .boolean
  | _ => .object "java/util/ArrayList"
abbrev wsX180 : List Cond := u_ws RX18 TX18 2
theorem nmX18 : ∀ a, a < 2 → ∀ b, b < 2 → a ≠ b → (TX18 a).2.1 ≠ (TX18 b).2.1 := by decide +kernel
theorem tyX18_ok : ∀ k, k < 2 → parseFieldDescriptor (TX18 k).2.2.1 = some (tyX18 k) := by decide +kernel
abbrev cX18_init : ByteArray := prog_19_method_1_code
def yX18_init : MethodName := ⟨RX18, "<init>", "(Z)V"⟩
def dkwX18_init_0 : List UInt8 := [42, 183, 0, 1, 42, 187, 0, 7, 89, 183, 0, 9, 181, 0, 10, 42, 27, 181, 0, 16, 177]
abbrev dktX18_init_0 : List UInt8 := dkwX18_init_0 ++ []
theorem dksX18_init_0 : cX18_init.data.toList.drop 0 = dktX18_init_0 := by decide +kernel
theorem dX18_init_0 : decode cX18_init 0 = .ok (.aload_n 0, 1) := dk_42 (dk_at dksX18_init_0 0 rfl rfl)
theorem dX18_init_1 : decode cX18_init 1 = .ok (.invokespecial 1, 3) := dk_183 0 1 (dk_at dksX18_init_0 1 rfl rfl)
theorem dX18_init_4 : decode cX18_init 4 = .ok (.aload_n 0, 1) := dk_42 (dk_at dksX18_init_0 4 rfl rfl)
theorem dX18_init_5 : decode cX18_init 5 = .ok (.new 7, 3) := dk_187 0 7 (dk_at dksX18_init_0 5 rfl rfl)
theorem dX18_init_8 : decode cX18_init 8 = .ok (.dup, 1) := dk_89 (dk_at dksX18_init_0 8 rfl rfl)
theorem dX18_init_9 : decode cX18_init 9 = .ok (.invokespecial 9, 3) := dk_183 0 9 (dk_at dksX18_init_0 9 rfl rfl)
theorem dX18_init_12 : decode cX18_init 12 = .ok (.putfield 10, 3) := dk_181 0 10 (dk_at dksX18_init_0 12 rfl rfl)
theorem dX18_init_15 : decode cX18_init 15 = .ok (.aload_n 0, 1) := dk_42 (dk_at dksX18_init_0 15 rfl rfl)
theorem dX18_init_16 : decode cX18_init 16 = .ok (.iload_n 1, 1) := dk_27 (dk_at dksX18_init_0 16 rfl rfl)
theorem dX18_init_17 : decode cX18_init 17 = .ok (.putfield 16, 3) := dk_181 0 16 (dk_at dksX18_init_0 17 rfl rfl)
theorem dX18_init_20 : decode cX18_init 20 = .ok (.return_, 1) := dk_177 (dk_at dksX18_init_0 20 rfl rfl)
abbrev cX18_holds : ByteArray := prog_19_method_2_code
def yX18_holds : MethodName := ⟨RX18, "holds", "(LRingDomino$Game;)Z"⟩
def dkwX18_holds_2 : List UInt8 := [3, 172, 132, 2, 1, 167, 255, 205, 42, 180, 0, 16, 172]
abbrev dktX18_holds_2 : List UInt8 := dkwX18_holds_2 ++ []
def dkwX18_holds_1 : List UInt8 := [43, 185, 0, 30, 2, 0, 42, 180, 0, 16, 159, 0, 16, 42, 180, 0, 16, 154, 0, 7, 4, 167, 0, 4]
abbrev dktX18_holds_1 : List UInt8 := dkwX18_holds_1 ++ dktX18_holds_2
def dkwX18_holds_0 : List UInt8 := [3, 61, 28, 42, 180, 0, 10, 182, 0, 20, 162, 0, 46, 42, 180, 0, 10, 28, 182, 0, 24, 192, 0, 28]
abbrev dktX18_holds_0 : List UInt8 := dkwX18_holds_0 ++ dktX18_holds_1
theorem dksX18_holds_0 : cX18_holds.data.toList.drop 0 = dktX18_holds_0 := by decide +kernel
theorem dksX18_holds_1 : cX18_holds.data.toList.drop 24 = dktX18_holds_1 := dk_seg dksX18_holds_0 24 rfl rfl
theorem dksX18_holds_2 : cX18_holds.data.toList.drop 48 = dktX18_holds_2 := dk_seg dksX18_holds_1 24 rfl rfl
theorem dX18_holds_0 : decode cX18_holds 0 = .ok (.iconst 0, 1) := dk_3 (dk_at dksX18_holds_0 0 rfl rfl)
theorem dX18_holds_1 : decode cX18_holds 1 = .ok (.istore_n 2, 1) := dk_61 (dk_at dksX18_holds_0 1 rfl rfl)
theorem dX18_holds_2 : decode cX18_holds 2 = .ok (.iload_n 2, 1) := dk_28 (dk_at dksX18_holds_0 2 rfl rfl)
theorem dX18_holds_3 : decode cX18_holds 3 = .ok (.aload_n 0, 1) := dk_42 (dk_at dksX18_holds_0 3 rfl rfl)
theorem dX18_holds_4 : decode cX18_holds 4 = .ok (.getfield 10, 3) := dk_180 0 10 (dk_at dksX18_holds_0 4 rfl rfl)
theorem dX18_holds_7 : decode cX18_holds 7 = .ok (.invokevirtual 20, 3) := dk_182 0 20 (dk_at dksX18_holds_0 7 rfl rfl)
theorem dX18_holds_10 : decode cX18_holds 10 = .ok (.if_icmp .ge 46, 3) := dk_162 0 46 (dk_at dksX18_holds_0 10 rfl rfl)
theorem dX18_holds_13 : decode cX18_holds 13 = .ok (.aload_n 0, 1) := dk_42 (dk_at dksX18_holds_0 13 rfl rfl)
theorem dX18_holds_14 : decode cX18_holds 14 = .ok (.getfield 10, 3) := dk_180 0 10 (dk_at dksX18_holds_0 14 rfl rfl)
theorem dX18_holds_17 : decode cX18_holds 17 = .ok (.iload_n 2, 1) := dk_28 (dk_at dksX18_holds_0 17 rfl rfl)
theorem dX18_holds_18 : decode cX18_holds 18 = .ok (.invokevirtual 24, 3) := dk_182 0 24 (dk_at dksX18_holds_0 18 rfl rfl)
theorem dX18_holds_21 : decode cX18_holds 21 = .ok (.checkcast 28, 3) := dk_192 0 28 (dk_at dksX18_holds_0 21 rfl rfl)
theorem dX18_holds_24 : decode cX18_holds 24 = .ok (.aload_n 1, 1) := dk_43 (dk_at dksX18_holds_1 0 rfl rfl)
theorem dX18_holds_25 : decode cX18_holds 25 = .ok (.invokeinterface 30 2, 5) := by decide +kernel
theorem dX18_holds_30 : decode cX18_holds 30 = .ok (.aload_n 0, 1) := dk_42 (dk_at dksX18_holds_1 6 rfl rfl)
theorem dX18_holds_31 : decode cX18_holds 31 = .ok (.getfield 16, 3) := dk_180 0 16 (dk_at dksX18_holds_1 7 rfl rfl)
theorem dX18_holds_34 : decode cX18_holds 34 = .ok (.if_icmp .eq 16, 3) := dk_159 0 16 (dk_at dksX18_holds_1 10 rfl rfl)
theorem dX18_holds_37 : decode cX18_holds 37 = .ok (.aload_n 0, 1) := dk_42 (dk_at dksX18_holds_1 13 rfl rfl)
theorem dX18_holds_38 : decode cX18_holds 38 = .ok (.getfield 16, 3) := dk_180 0 16 (dk_at dksX18_holds_1 14 rfl rfl)
theorem dX18_holds_41 : decode cX18_holds 41 = .ok (.ifCond .ne 7, 3) := dk_154 0 7 (dk_at dksX18_holds_1 17 rfl rfl)
theorem dX18_holds_44 : decode cX18_holds 44 = .ok (.iconst 1, 1) := dk_4 (dk_at dksX18_holds_1 20 rfl rfl)
theorem dX18_holds_45 : decode cX18_holds 45 = .ok (.goto 4, 3) := dk_167 0 4 (dk_at dksX18_holds_1 21 rfl rfl)
theorem dX18_holds_48 : decode cX18_holds 48 = .ok (.iconst 0, 1) := dk_3 (dk_at dksX18_holds_2 0 rfl rfl)
theorem dX18_holds_49 : decode cX18_holds 49 = .ok (.ireturn, 1) := dk_172 (dk_at dksX18_holds_2 1 rfl rfl)
theorem dX18_holds_50 : decode cX18_holds 50 = .ok (.iinc 2 1, 3) := dk_132 2 1 (dk_at dksX18_holds_2 2 rfl rfl)
theorem dX18_holds_53 : decode cX18_holds 53 = .ok (.goto (-51), 3) := dk_167 255 205 (dk_at dksX18_holds_2 5 rfl rfl)
theorem dX18_holds_56 : decode cX18_holds 56 = .ok (.aload_n 0, 1) := dk_42 (dk_at dksX18_holds_2 8 rfl rfl)
theorem dX18_holds_57 : decode cX18_holds 57 = .ok (.getfield 16, 3) := dk_180 0 16 (dk_at dksX18_holds_2 9 rfl rfl)
theorem dX18_holds_60 : decode cX18_holds 60 = .ok (.ireturn, 1) := dk_172 (dk_at dksX18_holds_2 12 rfl rfl)
theorem q154 : (Jvm.Cond.initialized "RingDomino$Several") ∈ lw_all := lw_g (lw_at lw_m1 55 rfl) rfl
theorem q802 : (Jvm.Cond.selects "RingDomino$Several" ({ cls := "java/lang/Object", name := "getClass", desc := "()Ljava/lang/Class;" } : Jvm.MethodName) ({ cls := "java/lang/Object", name := "getClass", desc := "()Ljava/lang/Class;" } : Jvm.MethodName)) ∈ lw_all := lw_g (lw_at lw_m3 223 rfl) rfl
theorem q1065 : (Jvm.Cond.selects "RingDomino$Several" ({ cls := "java/lang/Object", name := "hashCode", desc := "()I" } : Jvm.MethodName) ({ cls := "java/lang/Object", name := "hashCode", desc := "()I" } : Jvm.MethodName)) ∈ lw_all := lw_g (lw_at lw_m5 6 rfl) rfl
theorem q1182 : (Jvm.Cond.selects "RingDomino$Several" ({ cls := "java/lang/Object", name := "equals", desc := "(Ljava/lang/Object;)Z" } : Jvm.MethodName) ({ cls := "java/lang/Object", name := "equals", desc := "(Ljava/lang/Object;)Z" } : Jvm.MethodName)) ∈ lw_all := lw_g (lw_at lw_m5 123 rfl) rfl
theorem q1858 : (Jvm.Cond.instantiable "RingDomino$Several" (2 : Nat)) ∈ lw_all := lw_g (lw_at lw_m8 79 rfl) rfl
theorem q1860 : (Jvm.Cond.instanceMethod ({ cls := "RingDomino$Several", name := "<init>", desc := "(Z)V" } : Jvm.MethodName)) ∈ lw_all := lw_g (lw_at lw_m8 81 rfl) rfl
theorem q1861 : (Jvm.Cond.code ({ cls := "RingDomino$Several", name := "<init>", desc := "(Z)V" } : Jvm.MethodName) prog_19_method_1_code (2 : Nat) (Option.none : Option Jvm.ClassFile.FieldType)) ∈ lw_all := lw_g (lw_at lw_m8 82 rfl) rfl
theorem q1862 : (Jvm.Cond.methodLink "RingDomino$Several" (1 : Nat) ({ cls := "java/lang/Object", name := "<init>", desc := "()V" } : Jvm.MethodName)) ∈ lw_all := lw_g (lw_at lw_m8 83 rfl) rfl
theorem q1863 : (Jvm.Cond.classLink "RingDomino$Several" (7 : Nat) "java/util/ArrayList") ∈ lw_all := lw_g (lw_at lw_m8 84 rfl) rfl
theorem q1864 : (Jvm.Cond.methodLink "RingDomino$Several" (9 : Nat) ({ cls := "java/util/ArrayList", name := "<init>", desc := "()V" } : Jvm.MethodName)) ∈ lw_all := lw_g (lw_at lw_m8 85 rfl) rfl
theorem q1865 : (Jvm.Cond.fieldLink "RingDomino$Several" (16 : Nat) "RingDomino$Several" "isAll" "Z") ∈ lw_all := lw_g (lw_at lw_m8 86 rfl) rfl
theorem q1866 : (Jvm.Cond.fieldLink "RingDomino$Several" (10 : Nat) "RingDomino$Several" "tests" "Ljava/util/ArrayList;") ∈ lw_all := lw_g (lw_at lw_m8 87 rfl) rfl
theorem q1868 : (Jvm.Cond.laysFinal "RingDomino$Several" "RingDomino$Several" "isAll" "Z") ∈ lw_all := lw_g (lw_at lw_m8 89 rfl) rfl
theorem q1869 : (Jvm.Cond.soleField "RingDomino$Several" "isAll") ∈ lw_all := lw_g (lw_at lw_m8 90 rfl) rfl
theorem q1870 : (Jvm.Cond.laysFinal "RingDomino$Several" "RingDomino$Several" "tests" "Ljava/util/ArrayList;") ∈ lw_all := lw_g (lw_at lw_m8 91 rfl) rfl
theorem q1871 : (Jvm.Cond.soleField "RingDomino$Several" "tests") ∈ lw_all := lw_g (lw_at lw_m8 92 rfl) rfl
theorem q1872 : (Jvm.Cond.superclass "RingDomino$Several" "java/lang/Object") ∈ lw_all := lw_g (lw_at lw_m8 93 rfl) rfl
theorem q2284 : (Jvm.Cond.castable "RingDomino$Several" "RingDomino$Test") ∈ lw_tbl := lw_at lw_m10 25 rfl
theorem q2285 : (Jvm.Cond.selects "RingDomino$Several" ({ cls := "RingDomino$Test", name := "holds", desc := "(LRingDomino$Game;)Z" } : Jvm.MethodName) ({ cls := "RingDomino$Several", name := "holds", desc := "(LRingDomino$Game;)Z" } : Jvm.MethodName)) ∈ lw_all := lw_g (lw_at lw_m10 26 rfl) rfl
theorem q2286 : (Jvm.Cond.unhidden "RingDomino$Several" "holds" "(LRingDomino$Game;)Z") ∈ lw_tbl := lw_at lw_m10 27 rfl
theorem q2287 : (Jvm.Cond.instanceMethod ({ cls := "RingDomino$Several", name := "holds", desc := "(LRingDomino$Game;)Z" } : Jvm.MethodName)) ∈ lw_all := lw_g (lw_at lw_m10 28 rfl) rfl
theorem q2288 : (Jvm.Cond.publicMethod ({ cls := "RingDomino$Several", name := "holds", desc := "(LRingDomino$Game;)Z" } : Jvm.MethodName)) ∈ lw_tbl := lw_at lw_m10 29 rfl
theorem q2289 : (Jvm.Cond.code ({ cls := "RingDomino$Several", name := "holds", desc := "(LRingDomino$Game;)Z" } : Jvm.MethodName) prog_19_method_2_code (3 : Nat) (Option.some Jvm.ClassFile.FieldType.boolean)) ∈ lw_all := lw_g (lw_at lw_m10 30 rfl) rfl
theorem q2290 : (Jvm.Cond.methodLink "RingDomino$Several" (20 : Nat) ({ cls := "java/util/ArrayList", name := "size", desc := "()I" } : Jvm.MethodName)) ∈ lw_all := lw_g (lw_at lw_m10 31 rfl) rfl
theorem q2291 : (Jvm.Cond.methodLink "RingDomino$Several" (24 : Nat) ({ cls := "java/util/ArrayList", name := "get", desc := "(I)Ljava/lang/Object;" } : Jvm.MethodName)) ∈ lw_all := lw_g (lw_at lw_m10 32 rfl) rfl
theorem q2292 : (Jvm.Cond.classLink "RingDomino$Several" (28 : Nat) "RingDomino$Test") ∈ lw_all := lw_g (lw_at lw_m10 33 rfl) rfl
theorem q2293 : (Jvm.Cond.interfaceEntry "RingDomino$Several" (30 : Nat)) ∈ lw_tbl := lw_at lw_m10 34 rfl
theorem q2294 : (Jvm.Cond.methodLink "RingDomino$Several" (30 : Nat) ({ cls := "RingDomino$Test", name := "holds", desc := "(LRingDomino$Game;)Z" } : Jvm.MethodName)) ∈ lw_all := lw_g (lw_at lw_m10 35 rfl) rfl
theorem q3445 : (Jvm.Cond.castable "RingDomino$Several" "java/lang/Object") ∈ lw_tbl := lw_at lw_m14 226 rfl
theorem in_X18 : ∀ w ∈ wsX180, w ∈ lw_all := lw_in wsX180 [1868, 1870] (by decide +kernel) (by decide +kernel)

/-! RingDomino$Denied -/
def RX19 : String := "RingDomino$Denied"
def TX19 : u_T := fun k => match k with
  | _ => ("RingDomino$Denied", "test", "LRingDomino$Test;", true)
def tyX19 : Nat → FieldType := fun k => match k with
  | _ => .object "RingDomino$Test"
abbrev wsX190 : List Cond := u_ws RX19 TX19 1
theorem nmX19 : ∀ a, a < 1 → ∀ b, b < 1 → a ≠ b → (TX19 a).2.1 ≠ (TX19 b).2.1 := by decide +kernel
theorem tyX19_ok : ∀ k, k < 1 → parseFieldDescriptor (TX19 k).2.2.1 = some (tyX19 k) := by decide +kernel
abbrev cX19_init : ByteArray := prog_8_method_1_code
def yX19_init : MethodName := ⟨RX19, "<init>", "(LRingDomino$Test;)V"⟩
def dkwX19_init_0 : List UInt8 := [42, 183, 0, 1, 42, 43, 181, 0, 7, 177]
abbrev dktX19_init_0 : List UInt8 := dkwX19_init_0 ++ []
theorem dksX19_init_0 : cX19_init.data.toList.drop 0 = dktX19_init_0 := by decide +kernel
theorem dX19_init_0 : decode cX19_init 0 = .ok (.aload_n 0, 1) := dk_42 (dk_at dksX19_init_0 0 rfl rfl)
theorem dX19_init_1 : decode cX19_init 1 = .ok (.invokespecial 1, 3) := dk_183 0 1 (dk_at dksX19_init_0 1 rfl rfl)
theorem dX19_init_4 : decode cX19_init 4 = .ok (.aload_n 0, 1) := dk_42 (dk_at dksX19_init_0 4 rfl rfl)
theorem dX19_init_5 : decode cX19_init 5 = .ok (.aload_n 1, 1) := dk_43 (dk_at dksX19_init_0 5 rfl rfl)
theorem dX19_init_6 : decode cX19_init 6 = .ok (.putfield 7, 3) := dk_181 0 7 (dk_at dksX19_init_0 6 rfl rfl)
theorem dX19_init_9 : decode cX19_init 9 = .ok (.return_, 1) := dk_177 (dk_at dksX19_init_0 9 rfl rfl)
abbrev cX19_holds : ByteArray := prog_8_method_2_code
def yX19_holds : MethodName := ⟨RX19, "holds", "(LRingDomino$Game;)Z"⟩
def dkwX19_holds_0 : List UInt8 := [42, 180, 0, 7, 43, 185, 0, 13, 2, 0, 154, 0, 7, 4, 167, 0, 4, 3, 172]
abbrev dktX19_holds_0 : List UInt8 := dkwX19_holds_0 ++ []
theorem dksX19_holds_0 : cX19_holds.data.toList.drop 0 = dktX19_holds_0 := by decide +kernel
theorem dX19_holds_0 : decode cX19_holds 0 = .ok (.aload_n 0, 1) := dk_42 (dk_at dksX19_holds_0 0 rfl rfl)
theorem dX19_holds_1 : decode cX19_holds 1 = .ok (.getfield 7, 3) := dk_180 0 7 (dk_at dksX19_holds_0 1 rfl rfl)
theorem dX19_holds_4 : decode cX19_holds 4 = .ok (.aload_n 1, 1) := dk_43 (dk_at dksX19_holds_0 4 rfl rfl)
theorem dX19_holds_5 : decode cX19_holds 5 = .ok (.invokeinterface 13 2, 5) := by decide +kernel
theorem dX19_holds_10 : decode cX19_holds 10 = .ok (.ifCond .ne 7, 3) := dk_154 0 7 (dk_at dksX19_holds_0 10 rfl rfl)
theorem dX19_holds_13 : decode cX19_holds 13 = .ok (.iconst 1, 1) := dk_4 (dk_at dksX19_holds_0 13 rfl rfl)
theorem dX19_holds_14 : decode cX19_holds 14 = .ok (.goto 4, 3) := dk_167 0 4 (dk_at dksX19_holds_0 14 rfl rfl)
theorem dX19_holds_17 : decode cX19_holds 17 = .ok (.iconst 0, 1) := dk_3 (dk_at dksX19_holds_0 17 rfl rfl)
theorem dX19_holds_18 : decode cX19_holds 18 = .ok (.ireturn, 1) := dk_172 (dk_at dksX19_holds_0 18 rfl rfl)
theorem q155 : (Jvm.Cond.initialized "RingDomino$Denied") ∈ lw_all := lw_g (lw_at lw_m1 56 rfl) rfl
theorem q791 : (Jvm.Cond.selects "RingDomino$Denied" ({ cls := "java/lang/Object", name := "getClass", desc := "()Ljava/lang/Class;" } : Jvm.MethodName) ({ cls := "java/lang/Object", name := "getClass", desc := "()Ljava/lang/Class;" } : Jvm.MethodName)) ∈ lw_all := lw_g (lw_at lw_m3 212 rfl) rfl
theorem q1054 : (Jvm.Cond.selects "RingDomino$Denied" ({ cls := "java/lang/Object", name := "hashCode", desc := "()I" } : Jvm.MethodName) ({ cls := "java/lang/Object", name := "hashCode", desc := "()I" } : Jvm.MethodName)) ∈ lw_all := lw_g (lw_at lw_m4 235 rfl) rfl
theorem q1171 : (Jvm.Cond.selects "RingDomino$Denied" ({ cls := "java/lang/Object", name := "equals", desc := "(Ljava/lang/Object;)Z" } : Jvm.MethodName) ({ cls := "java/lang/Object", name := "equals", desc := "(Ljava/lang/Object;)Z" } : Jvm.MethodName)) ∈ lw_all := lw_g (lw_at lw_m5 112 rfl) rfl
theorem q1883 : (Jvm.Cond.instantiable "RingDomino$Denied" (1 : Nat)) ∈ lw_all := lw_g (lw_at lw_m8 104 rfl) rfl
theorem q1885 : (Jvm.Cond.instanceMethod ({ cls := "RingDomino$Denied", name := "<init>", desc := "(LRingDomino$Test;)V" } : Jvm.MethodName)) ∈ lw_all := lw_g (lw_at lw_m8 106 rfl) rfl
theorem q1886 : (Jvm.Cond.code ({ cls := "RingDomino$Denied", name := "<init>", desc := "(LRingDomino$Test;)V" } : Jvm.MethodName) prog_8_method_1_code (2 : Nat) (Option.none : Option Jvm.ClassFile.FieldType)) ∈ lw_all := lw_g (lw_at lw_m8 107 rfl) rfl
theorem q1887 : (Jvm.Cond.methodLink "RingDomino$Denied" (1 : Nat) ({ cls := "java/lang/Object", name := "<init>", desc := "()V" } : Jvm.MethodName)) ∈ lw_all := lw_g (lw_at lw_m8 108 rfl) rfl
theorem q1888 : (Jvm.Cond.fieldLink "RingDomino$Denied" (7 : Nat) "RingDomino$Denied" "test" "LRingDomino$Test;") ∈ lw_all := lw_g (lw_at lw_m8 109 rfl) rfl
theorem q1889 : (Jvm.Cond.laysFinal "RingDomino$Denied" "RingDomino$Denied" "test" "LRingDomino$Test;") ∈ lw_all := lw_g (lw_at lw_m8 110 rfl) rfl
theorem q1890 : (Jvm.Cond.soleField "RingDomino$Denied" "test") ∈ lw_all := lw_g (lw_at lw_m8 111 rfl) rfl
theorem q1891 : (Jvm.Cond.superclass "RingDomino$Denied" "java/lang/Object") ∈ lw_all := lw_g (lw_at lw_m8 112 rfl) rfl
theorem q2262 : (Jvm.Cond.castable "RingDomino$Denied" "RingDomino$Test") ∈ lw_tbl := lw_at lw_m10 3 rfl
theorem q2263 : (Jvm.Cond.selects "RingDomino$Denied" ({ cls := "RingDomino$Test", name := "holds", desc := "(LRingDomino$Game;)Z" } : Jvm.MethodName) ({ cls := "RingDomino$Denied", name := "holds", desc := "(LRingDomino$Game;)Z" } : Jvm.MethodName)) ∈ lw_all := lw_g (lw_at lw_m10 4 rfl) rfl
theorem q2264 : (Jvm.Cond.unhidden "RingDomino$Denied" "holds" "(LRingDomino$Game;)Z") ∈ lw_tbl := lw_at lw_m10 5 rfl
theorem q2265 : (Jvm.Cond.instanceMethod ({ cls := "RingDomino$Denied", name := "holds", desc := "(LRingDomino$Game;)Z" } : Jvm.MethodName)) ∈ lw_all := lw_g (lw_at lw_m10 6 rfl) rfl
theorem q2266 : (Jvm.Cond.publicMethod ({ cls := "RingDomino$Denied", name := "holds", desc := "(LRingDomino$Game;)Z" } : Jvm.MethodName)) ∈ lw_tbl := lw_at lw_m10 7 rfl
theorem q2267 : (Jvm.Cond.code ({ cls := "RingDomino$Denied", name := "holds", desc := "(LRingDomino$Game;)Z" } : Jvm.MethodName) prog_8_method_2_code (2 : Nat) (Option.some Jvm.ClassFile.FieldType.boolean)) ∈ lw_all := lw_g (lw_at lw_m10 8 rfl) rfl
theorem q2268 : (Jvm.Cond.interfaceEntry "RingDomino$Denied" (13 : Nat)) ∈ lw_tbl := lw_at lw_m10 9 rfl
theorem q2269 : (Jvm.Cond.methodLink "RingDomino$Denied" (13 : Nat) ({ cls := "RingDomino$Test", name := "holds", desc := "(LRingDomino$Game;)Z" } : Jvm.MethodName)) ∈ lw_all := lw_g (lw_at lw_m10 10 rfl) rfl
theorem q3446 : (Jvm.Cond.castable "RingDomino$Denied" "java/lang/Object") ∈ lw_tbl := lw_at lw_m14 227 rfl
theorem in_X19 : ∀ w ∈ wsX190, w ∈ lw_all := lw_in wsX190 [1889] (by decide +kernel) (by decide +kernel)

/-! RingDomino$On -/
def RX20 : String := "RingDomino$On"
def TX20 : u_T := fun k => match k with
  | _ => ("RingDomino$On", "tile", "I", true)
def tyX20 : Nat → FieldType := fun k => match k with
  | _ => .int
abbrev wsX200 : List Cond := u_ws RX20 TX20 1
theorem nmX20 : ∀ a, a < 1 → ∀ b, b < 1 → a ≠ b → (TX20 a).2.1 ≠ (TX20 b).2.1 := by decide +kernel
theorem tyX20_ok : ∀ k, k < 1 → parseFieldDescriptor (TX20 k).2.2.1 = some (tyX20 k) := by decide +kernel
abbrev cX20_init : ByteArray := prog_14_method_1_code
def yX20_init : MethodName := ⟨RX20, "<init>", "(I)V"⟩
def dkwX20_init_0 : List UInt8 := [42, 183, 0, 1, 42, 27, 181, 0, 7, 177]
abbrev dktX20_init_0 : List UInt8 := dkwX20_init_0 ++ []
theorem dksX20_init_0 : cX20_init.data.toList.drop 0 = dktX20_init_0 := by decide +kernel
theorem dX20_init_0 : decode cX20_init 0 = .ok (.aload_n 0, 1) := dk_42 (dk_at dksX20_init_0 0 rfl rfl)
theorem dX20_init_1 : decode cX20_init 1 = .ok (.invokespecial 1, 3) := dk_183 0 1 (dk_at dksX20_init_0 1 rfl rfl)
theorem dX20_init_4 : decode cX20_init 4 = .ok (.aload_n 0, 1) := dk_42 (dk_at dksX20_init_0 4 rfl rfl)
theorem dX20_init_5 : decode cX20_init 5 = .ok (.iload_n 1, 1) := dk_27 (dk_at dksX20_init_0 5 rfl rfl)
theorem dX20_init_6 : decode cX20_init 6 = .ok (.putfield 7, 3) := dk_181 0 7 (dk_at dksX20_init_0 6 rfl rfl)
theorem dX20_init_9 : decode cX20_init 9 = .ok (.return_, 1) := dk_177 (dk_at dksX20_init_0 9 rfl rfl)
abbrev cX20_holds : ByteArray := prog_14_method_2_code
def yX20_holds : MethodName := ⟨RX20, "holds", "(LRingDomino$Game;)Z"⟩
def dkwX20_holds_0 : List UInt8 := [43, 42, 180, 0, 7, 182, 0, 13, 172]
abbrev dktX20_holds_0 : List UInt8 := dkwX20_holds_0 ++ []
theorem dksX20_holds_0 : cX20_holds.data.toList.drop 0 = dktX20_holds_0 := by decide +kernel
theorem dX20_holds_0 : decode cX20_holds 0 = .ok (.aload_n 1, 1) := dk_43 (dk_at dksX20_holds_0 0 rfl rfl)
theorem dX20_holds_1 : decode cX20_holds 1 = .ok (.aload_n 0, 1) := dk_42 (dk_at dksX20_holds_0 1 rfl rfl)
theorem dX20_holds_2 : decode cX20_holds 2 = .ok (.getfield 7, 3) := dk_180 0 7 (dk_at dksX20_holds_0 2 rfl rfl)
theorem dX20_holds_5 : decode cX20_holds 5 = .ok (.invokevirtual 13, 3) := dk_182 0 13 (dk_at dksX20_holds_0 5 rfl rfl)
theorem dX20_holds_8 : decode cX20_holds 8 = .ok (.ireturn, 1) := dk_172 (dk_at dksX20_holds_0 8 rfl rfl)
theorem q156 : (Jvm.Cond.initialized "RingDomino$On") ∈ lw_all := lw_g (lw_at lw_m1 57 rfl) rfl
theorem q797 : (Jvm.Cond.selects "RingDomino$On" ({ cls := "java/lang/Object", name := "getClass", desc := "()Ljava/lang/Class;" } : Jvm.MethodName) ({ cls := "java/lang/Object", name := "getClass", desc := "()Ljava/lang/Class;" } : Jvm.MethodName)) ∈ lw_all := lw_g (lw_at lw_m3 218 rfl) rfl
theorem q1060 : (Jvm.Cond.selects "RingDomino$On" ({ cls := "java/lang/Object", name := "hashCode", desc := "()I" } : Jvm.MethodName) ({ cls := "java/lang/Object", name := "hashCode", desc := "()I" } : Jvm.MethodName)) ∈ lw_all := lw_g (lw_at lw_m5 1 rfl) rfl
theorem q1177 : (Jvm.Cond.selects "RingDomino$On" ({ cls := "java/lang/Object", name := "equals", desc := "(Ljava/lang/Object;)Z" } : Jvm.MethodName) ({ cls := "java/lang/Object", name := "equals", desc := "(Ljava/lang/Object;)Z" } : Jvm.MethodName)) ∈ lw_all := lw_g (lw_at lw_m5 118 rfl) rfl
theorem q1896 : (Jvm.Cond.instantiable "RingDomino$On" (1 : Nat)) ∈ lw_all := lw_g (lw_at lw_m8 117 rfl) rfl
theorem q1898 : (Jvm.Cond.instanceMethod ({ cls := "RingDomino$On", name := "<init>", desc := "(I)V" } : Jvm.MethodName)) ∈ lw_all := lw_g (lw_at lw_m8 119 rfl) rfl
theorem q1899 : (Jvm.Cond.code ({ cls := "RingDomino$On", name := "<init>", desc := "(I)V" } : Jvm.MethodName) prog_14_method_1_code (2 : Nat) (Option.none : Option Jvm.ClassFile.FieldType)) ∈ lw_all := lw_g (lw_at lw_m8 120 rfl) rfl
theorem q1900 : (Jvm.Cond.methodLink "RingDomino$On" (1 : Nat) ({ cls := "java/lang/Object", name := "<init>", desc := "()V" } : Jvm.MethodName)) ∈ lw_all := lw_g (lw_at lw_m8 121 rfl) rfl
theorem q1901 : (Jvm.Cond.fieldLink "RingDomino$On" (7 : Nat) "RingDomino$On" "tile" "I") ∈ lw_all := lw_g (lw_at lw_m8 122 rfl) rfl
theorem q1902 : (Jvm.Cond.laysFinal "RingDomino$On" "RingDomino$On" "tile" "I") ∈ lw_all := lw_g (lw_at lw_m8 123 rfl) rfl
theorem q1903 : (Jvm.Cond.soleField "RingDomino$On" "tile") ∈ lw_all := lw_g (lw_at lw_m8 124 rfl) rfl
theorem q1904 : (Jvm.Cond.superclass "RingDomino$On" "java/lang/Object") ∈ lw_all := lw_g (lw_at lw_m8 125 rfl) rfl
theorem q2277 : (Jvm.Cond.castable "RingDomino$On" "RingDomino$Test") ∈ lw_tbl := lw_at lw_m10 18 rfl
theorem q2278 : (Jvm.Cond.selects "RingDomino$On" ({ cls := "RingDomino$Test", name := "holds", desc := "(LRingDomino$Game;)Z" } : Jvm.MethodName) ({ cls := "RingDomino$On", name := "holds", desc := "(LRingDomino$Game;)Z" } : Jvm.MethodName)) ∈ lw_all := lw_g (lw_at lw_m10 19 rfl) rfl
theorem q2279 : (Jvm.Cond.unhidden "RingDomino$On" "holds" "(LRingDomino$Game;)Z") ∈ lw_tbl := lw_at lw_m10 20 rfl
theorem q2280 : (Jvm.Cond.instanceMethod ({ cls := "RingDomino$On", name := "holds", desc := "(LRingDomino$Game;)Z" } : Jvm.MethodName)) ∈ lw_all := lw_g (lw_at lw_m10 21 rfl) rfl
theorem q2281 : (Jvm.Cond.publicMethod ({ cls := "RingDomino$On", name := "holds", desc := "(LRingDomino$Game;)Z" } : Jvm.MethodName)) ∈ lw_tbl := lw_at lw_m10 22 rfl
theorem q2282 : (Jvm.Cond.code ({ cls := "RingDomino$On", name := "holds", desc := "(LRingDomino$Game;)Z" } : Jvm.MethodName) prog_14_method_2_code (2 : Nat) (Option.some Jvm.ClassFile.FieldType.boolean)) ∈ lw_all := lw_g (lw_at lw_m10 23 rfl) rfl
theorem q2283 : (Jvm.Cond.methodLink "RingDomino$On" (13 : Nat) ({ cls := "RingDomino$Game", name := "isPlaced", desc := "(I)Z" } : Jvm.MethodName)) ∈ lw_all := lw_g (lw_at lw_m10 24 rfl) rfl
theorem q3447 : (Jvm.Cond.castable "RingDomino$On" "java/lang/Object") ∈ lw_tbl := lw_at lw_m14 228 rfl
theorem in_X20 : ∀ w ∈ wsX200, w ∈ lw_all := lw_in wsX200 [1902] (by decide +kernel) (by decide +kernel)

/-! RingDomino$Fitting -/
def RX21 : String := "RingDomino$Fitting"
def TX21 : u_T := fun k => match k with
  | _ => ("RingDomino$Fitting", "tile", "I", true)
def tyX21 : Nat → FieldType := fun k => match k with
  | _ => .int
abbrev wsX210 : List Cond := u_ws RX21 TX21 1
theorem nmX21 : ∀ a, a < 1 → ∀ b, b < 1 → a ≠ b → (TX21 a).2.1 ≠ (TX21 b).2.1 := by decide +kernel
theorem tyX21_ok : ∀ k, k < 1 → parseFieldDescriptor (TX21 k).2.2.1 = some (tyX21 k) := by decide +kernel
abbrev cX21_init : ByteArray := prog_10_method_1_code
def yX21_init : MethodName := ⟨RX21, "<init>", "(I)V"⟩
def dkwX21_init_0 : List UInt8 := [42, 183, 0, 1, 42, 27, 181, 0, 7, 177]
abbrev dktX21_init_0 : List UInt8 := dkwX21_init_0 ++ []
theorem dksX21_init_0 : cX21_init.data.toList.drop 0 = dktX21_init_0 := by decide +kernel
theorem dX21_init_0 : decode cX21_init 0 = .ok (.aload_n 0, 1) := dk_42 (dk_at dksX21_init_0 0 rfl rfl)
theorem dX21_init_1 : decode cX21_init 1 = .ok (.invokespecial 1, 3) := dk_183 0 1 (dk_at dksX21_init_0 1 rfl rfl)
theorem dX21_init_4 : decode cX21_init 4 = .ok (.aload_n 0, 1) := dk_42 (dk_at dksX21_init_0 4 rfl rfl)
theorem dX21_init_5 : decode cX21_init 5 = .ok (.iload_n 1, 1) := dk_27 (dk_at dksX21_init_0 5 rfl rfl)
theorem dX21_init_6 : decode cX21_init 6 = .ok (.putfield 7, 3) := dk_181 0 7 (dk_at dksX21_init_0 6 rfl rfl)
theorem dX21_init_9 : decode cX21_init 9 = .ok (.return_, 1) := dk_177 (dk_at dksX21_init_0 9 rfl rfl)
abbrev cX21_holds : ByteArray := prog_10_method_2_code
def yX21_holds : MethodName := ⟨RX21, "holds", "(LRingDomino$Game;)Z"⟩
def dkwX21_holds_0 : List UInt8 := [43, 42, 180, 0, 7, 182, 0, 13, 158, 0, 7, 4, 167, 0, 4, 3, 172]
abbrev dktX21_holds_0 : List UInt8 := dkwX21_holds_0 ++ []
theorem dksX21_holds_0 : cX21_holds.data.toList.drop 0 = dktX21_holds_0 := by decide +kernel
theorem dX21_holds_0 : decode cX21_holds 0 = .ok (.aload_n 1, 1) := dk_43 (dk_at dksX21_holds_0 0 rfl rfl)
theorem dX21_holds_1 : decode cX21_holds 1 = .ok (.aload_n 0, 1) := dk_42 (dk_at dksX21_holds_0 1 rfl rfl)
theorem dX21_holds_2 : decode cX21_holds 2 = .ok (.getfield 7, 3) := dk_180 0 7 (dk_at dksX21_holds_0 2 rfl rfl)
theorem dX21_holds_5 : decode cX21_holds 5 = .ok (.invokevirtual 13, 3) := dk_182 0 13 (dk_at dksX21_holds_0 5 rfl rfl)
theorem dX21_holds_8 : decode cX21_holds 8 = .ok (.ifCond .le 7, 3) := dk_158 0 7 (dk_at dksX21_holds_0 8 rfl rfl)
theorem dX21_holds_11 : decode cX21_holds 11 = .ok (.iconst 1, 1) := dk_4 (dk_at dksX21_holds_0 11 rfl rfl)
theorem dX21_holds_12 : decode cX21_holds 12 = .ok (.goto 4, 3) := dk_167 0 4 (dk_at dksX21_holds_0 12 rfl rfl)
theorem dX21_holds_15 : decode cX21_holds 15 = .ok (.iconst 0, 1) := dk_3 (dk_at dksX21_holds_0 15 rfl rfl)
theorem dX21_holds_16 : decode cX21_holds 16 = .ok (.ireturn, 1) := dk_172 (dk_at dksX21_holds_0 16 rfl rfl)
theorem q157 : (Jvm.Cond.initialized "RingDomino$Fitting") ∈ lw_all := lw_g (lw_at lw_m1 58 rfl) rfl
theorem q793 : (Jvm.Cond.selects "RingDomino$Fitting" ({ cls := "java/lang/Object", name := "getClass", desc := "()Ljava/lang/Class;" } : Jvm.MethodName) ({ cls := "java/lang/Object", name := "getClass", desc := "()Ljava/lang/Class;" } : Jvm.MethodName)) ∈ lw_all := lw_g (lw_at lw_m3 214 rfl) rfl
theorem q1056 : (Jvm.Cond.selects "RingDomino$Fitting" ({ cls := "java/lang/Object", name := "hashCode", desc := "()I" } : Jvm.MethodName) ({ cls := "java/lang/Object", name := "hashCode", desc := "()I" } : Jvm.MethodName)) ∈ lw_all := lw_g (lw_at lw_m4 237 rfl) rfl
theorem q1173 : (Jvm.Cond.selects "RingDomino$Fitting" ({ cls := "java/lang/Object", name := "equals", desc := "(Ljava/lang/Object;)Z" } : Jvm.MethodName) ({ cls := "java/lang/Object", name := "equals", desc := "(Ljava/lang/Object;)Z" } : Jvm.MethodName)) ∈ lw_all := lw_g (lw_at lw_m5 114 rfl) rfl
theorem q1907 : (Jvm.Cond.instantiable "RingDomino$Fitting" (1 : Nat)) ∈ lw_all := lw_g (lw_at lw_m8 128 rfl) rfl
theorem q1909 : (Jvm.Cond.instanceMethod ({ cls := "RingDomino$Fitting", name := "<init>", desc := "(I)V" } : Jvm.MethodName)) ∈ lw_all := lw_g (lw_at lw_m8 130 rfl) rfl
theorem q1910 : (Jvm.Cond.code ({ cls := "RingDomino$Fitting", name := "<init>", desc := "(I)V" } : Jvm.MethodName) prog_10_method_1_code (2 : Nat) (Option.none : Option Jvm.ClassFile.FieldType)) ∈ lw_all := lw_g (lw_at lw_m8 131 rfl) rfl
theorem q1911 : (Jvm.Cond.methodLink "RingDomino$Fitting" (1 : Nat) ({ cls := "java/lang/Object", name := "<init>", desc := "()V" } : Jvm.MethodName)) ∈ lw_all := lw_g (lw_at lw_m8 132 rfl) rfl
theorem q1912 : (Jvm.Cond.fieldLink "RingDomino$Fitting" (7 : Nat) "RingDomino$Fitting" "tile" "I") ∈ lw_all := lw_g (lw_at lw_m8 133 rfl) rfl
theorem q1913 : (Jvm.Cond.laysFinal "RingDomino$Fitting" "RingDomino$Fitting" "tile" "I") ∈ lw_all := lw_g (lw_at lw_m8 134 rfl) rfl
theorem q1914 : (Jvm.Cond.soleField "RingDomino$Fitting" "tile") ∈ lw_all := lw_g (lw_at lw_m8 135 rfl) rfl
theorem q1915 : (Jvm.Cond.superclass "RingDomino$Fitting" "java/lang/Object") ∈ lw_all := lw_g (lw_at lw_m8 136 rfl) rfl
theorem q2270 : (Jvm.Cond.castable "RingDomino$Fitting" "RingDomino$Test") ∈ lw_tbl := lw_at lw_m10 11 rfl
theorem q2271 : (Jvm.Cond.selects "RingDomino$Fitting" ({ cls := "RingDomino$Test", name := "holds", desc := "(LRingDomino$Game;)Z" } : Jvm.MethodName) ({ cls := "RingDomino$Fitting", name := "holds", desc := "(LRingDomino$Game;)Z" } : Jvm.MethodName)) ∈ lw_all := lw_g (lw_at lw_m10 12 rfl) rfl
theorem q2272 : (Jvm.Cond.unhidden "RingDomino$Fitting" "holds" "(LRingDomino$Game;)Z") ∈ lw_tbl := lw_at lw_m10 13 rfl
theorem q2273 : (Jvm.Cond.instanceMethod ({ cls := "RingDomino$Fitting", name := "holds", desc := "(LRingDomino$Game;)Z" } : Jvm.MethodName)) ∈ lw_all := lw_g (lw_at lw_m10 14 rfl) rfl
theorem q2274 : (Jvm.Cond.publicMethod ({ cls := "RingDomino$Fitting", name := "holds", desc := "(LRingDomino$Game;)Z" } : Jvm.MethodName)) ∈ lw_tbl := lw_at lw_m10 15 rfl
theorem q2275 : (Jvm.Cond.code ({ cls := "RingDomino$Fitting", name := "holds", desc := "(LRingDomino$Game;)Z" } : Jvm.MethodName) prog_10_method_2_code (2 : Nat) (Option.some Jvm.ClassFile.FieldType.boolean)) ∈ lw_all := lw_g (lw_at lw_m10 16 rfl) rfl
theorem q2276 : (Jvm.Cond.methodLink "RingDomino$Fitting" (13 : Nat) ({ cls := "RingDomino$Game", name := "ways", desc := "(I)I" } : Jvm.MethodName)) ∈ lw_all := lw_g (lw_at lw_m10 17 rfl) rfl
theorem q3448 : (Jvm.Cond.castable "RingDomino$Fitting" "java/lang/Object") ∈ lw_tbl := lw_at lw_m14 229 rfl
theorem in_X21 : ∀ w ∈ wsX210, w ∈ lw_all := lw_in wsX210 [1913] (by decide +kernel) (by decide +kernel)

/-! RingDomino$Compared -/
def RX22 : String := "RingDomino$Compared"
def TX22 : u_T := fun k => match k with
  | 0 => ("RingDomino$Compared", "sign", "Ljava/lang/String;", true)
  | 1 => ("RingDomino$Compared", "left", "LRingDomino$Sum;", true)
  | _ => ("RingDomino$Compared", "right", "LRingDomino$Sum;", true)
def tyX22 : Nat → FieldType := fun k => match k with
  | 0 => .object "java/lang/String"
  | 1 => .object "RingDomino$Sum"
  | _ => .object "RingDomino$Sum"
abbrev wsX220 : List Cond := u_ws RX22 TX22 3
theorem nmX22 : ∀ a, a < 3 → ∀ b, b < 3 → a ≠ b → (TX22 a).2.1 ≠ (TX22 b).2.1 := by decide +kernel
theorem tyX22_ok : ∀ k, k < 3 → parseFieldDescriptor (TX22 k).2.2.1 = some (tyX22 k) := by decide +kernel
abbrev cX22_init : ByteArray := prog_3_method_1_code
def yX22_init : MethodName := ⟨RX22, "<init>", "(Ljava/lang/String;LRingDomino$Sum;LRingDomino$Sum;)V"⟩
def dkwX22_init_0 : List UInt8 := [42, 183, 0, 1, 42, 43, 181, 0, 7, 42, 44, 181, 0, 13, 42, 45, 181, 0, 17, 177]
abbrev dktX22_init_0 : List UInt8 := dkwX22_init_0 ++ []
theorem dksX22_init_0 : cX22_init.data.toList.drop 0 = dktX22_init_0 := by decide +kernel
theorem dX22_init_0 : decode cX22_init 0 = .ok (.aload_n 0, 1) := dk_42 (dk_at dksX22_init_0 0 rfl rfl)
theorem dX22_init_1 : decode cX22_init 1 = .ok (.invokespecial 1, 3) := dk_183 0 1 (dk_at dksX22_init_0 1 rfl rfl)
theorem dX22_init_4 : decode cX22_init 4 = .ok (.aload_n 0, 1) := dk_42 (dk_at dksX22_init_0 4 rfl rfl)
theorem dX22_init_5 : decode cX22_init 5 = .ok (.aload_n 1, 1) := dk_43 (dk_at dksX22_init_0 5 rfl rfl)
theorem dX22_init_6 : decode cX22_init 6 = .ok (.putfield 7, 3) := dk_181 0 7 (dk_at dksX22_init_0 6 rfl rfl)
theorem dX22_init_9 : decode cX22_init 9 = .ok (.aload_n 0, 1) := dk_42 (dk_at dksX22_init_0 9 rfl rfl)
theorem dX22_init_10 : decode cX22_init 10 = .ok (.aload_n 2, 1) := dk_44 (dk_at dksX22_init_0 10 rfl rfl)
theorem dX22_init_11 : decode cX22_init 11 = .ok (.putfield 13, 3) := dk_181 0 13 (dk_at dksX22_init_0 11 rfl rfl)
theorem dX22_init_14 : decode cX22_init 14 = .ok (.aload_n 0, 1) := dk_42 (dk_at dksX22_init_0 14 rfl rfl)
theorem dX22_init_15 : decode cX22_init 15 = .ok (.aload_n 3, 1) := dk_45 (dk_at dksX22_init_0 15 rfl rfl)
theorem dX22_init_16 : decode cX22_init 16 = .ok (.putfield 17, 3) := dk_181 0 17 (dk_at dksX22_init_0 16 rfl rfl)
theorem dX22_init_19 : decode cX22_init 19 = .ok (.return_, 1) := dk_177 (dk_at dksX22_init_0 19 rfl rfl)
abbrev cX22_holds : ByteArray := prog_3_method_2_code
def yX22_holds : MethodName := ⟨RX22, "holds", "(LRingDomino$Game;)Z"⟩
def dkwX22_holds_4 : List UInt8 := [167, 0, 4, 3, 172]
abbrev dktX22_holds_4 : List UInt8 := dkwX22_holds_4 ++ []
def dkwX22_holds_3 : List UInt8 := [42, 180, 0, 7, 42, 180, 0, 7, 182, 0, 38, 4, 100, 182, 0, 32, 16, 61, 160, 0, 7, 4]
abbrev dktX22_holds_3 : List UInt8 := dkwX22_holds_3 ++ dktX22_holds_4
def dkwX22_holds_2 : List UInt8 := [158, 0, 24, 42, 180, 0, 7, 3, 182, 0, 32, 16, 62, 160, 0, 7, 4, 167, 0, 33, 3, 167, 0, 29]
abbrev dktX22_holds_2 : List UInt8 := dkwX22_holds_2 ++ dktX22_holds_3
def dkwX22_holds_1 : List UInt8 := [42, 180, 0, 7, 3, 182, 0, 32, 16, 60, 160, 0, 7, 4, 167, 0, 58, 3, 167, 0, 54, 28]
abbrev dktX22_holds_1 : List UInt8 := dkwX22_holds_1 ++ dktX22_holds_2
def dkwX22_holds_0 : List UInt8 := [42, 180, 0, 13, 43, 182, 0, 20, 42, 180, 0, 17, 43, 182, 0, 20, 184, 0, 26, 61, 28, 156, 0, 24]
abbrev dktX22_holds_0 : List UInt8 := dkwX22_holds_0 ++ dktX22_holds_1
theorem dksX22_holds_0 : cX22_holds.data.toList.drop 0 = dktX22_holds_0 := by decide +kernel
theorem dksX22_holds_1 : cX22_holds.data.toList.drop 24 = dktX22_holds_1 := dk_seg dksX22_holds_0 24 rfl rfl
theorem dksX22_holds_2 : cX22_holds.data.toList.drop 46 = dktX22_holds_2 := dk_seg dksX22_holds_1 22 rfl rfl
theorem dksX22_holds_3 : cX22_holds.data.toList.drop 70 = dktX22_holds_3 := dk_seg dksX22_holds_2 24 rfl rfl
theorem dksX22_holds_4 : cX22_holds.data.toList.drop 92 = dktX22_holds_4 := dk_seg dksX22_holds_3 22 rfl rfl
theorem dX22_holds_0 : decode cX22_holds 0 = .ok (.aload_n 0, 1) := dk_42 (dk_at dksX22_holds_0 0 rfl rfl)
theorem dX22_holds_1 : decode cX22_holds 1 = .ok (.getfield 13, 3) := dk_180 0 13 (dk_at dksX22_holds_0 1 rfl rfl)
theorem dX22_holds_4 : decode cX22_holds 4 = .ok (.aload_n 1, 1) := dk_43 (dk_at dksX22_holds_0 4 rfl rfl)
theorem dX22_holds_5 : decode cX22_holds 5 = .ok (.invokevirtual 20, 3) := dk_182 0 20 (dk_at dksX22_holds_0 5 rfl rfl)
theorem dX22_holds_8 : decode cX22_holds 8 = .ok (.aload_n 0, 1) := dk_42 (dk_at dksX22_holds_0 8 rfl rfl)
theorem dX22_holds_9 : decode cX22_holds 9 = .ok (.getfield 17, 3) := dk_180 0 17 (dk_at dksX22_holds_0 9 rfl rfl)
theorem dX22_holds_12 : decode cX22_holds 12 = .ok (.aload_n 1, 1) := dk_43 (dk_at dksX22_holds_0 12 rfl rfl)
theorem dX22_holds_13 : decode cX22_holds 13 = .ok (.invokevirtual 20, 3) := dk_182 0 20 (dk_at dksX22_holds_0 13 rfl rfl)
theorem dX22_holds_16 : decode cX22_holds 16 = .ok (.invokestatic 26, 3) := dk_184 0 26 (dk_at dksX22_holds_0 16 rfl rfl)
theorem dX22_holds_19 : decode cX22_holds 19 = .ok (.istore_n 2, 1) := dk_61 (dk_at dksX22_holds_0 19 rfl rfl)
theorem dX22_holds_20 : decode cX22_holds 20 = .ok (.iload_n 2, 1) := dk_28 (dk_at dksX22_holds_0 20 rfl rfl)
theorem dX22_holds_21 : decode cX22_holds 21 = .ok (.ifCond .ge 24, 3) := dk_156 0 24 (dk_at dksX22_holds_0 21 rfl rfl)
theorem dX22_holds_24 : decode cX22_holds 24 = .ok (.aload_n 0, 1) := dk_42 (dk_at dksX22_holds_1 0 rfl rfl)
theorem dX22_holds_25 : decode cX22_holds 25 = .ok (.getfield 7, 3) := dk_180 0 7 (dk_at dksX22_holds_1 1 rfl rfl)
theorem dX22_holds_28 : decode cX22_holds 28 = .ok (.iconst 0, 1) := dk_3 (dk_at dksX22_holds_1 4 rfl rfl)
theorem dX22_holds_29 : decode cX22_holds 29 = .ok (.invokevirtual 32, 3) := dk_182 0 32 (dk_at dksX22_holds_1 5 rfl rfl)
theorem dX22_holds_32 : decode cX22_holds 32 = .ok (.bipush 60, 2) := dk_16 60 (dk_at dksX22_holds_1 8 rfl rfl)
theorem dX22_holds_34 : decode cX22_holds 34 = .ok (.if_icmp .ne 7, 3) := dk_160 0 7 (dk_at dksX22_holds_1 10 rfl rfl)
theorem dX22_holds_37 : decode cX22_holds 37 = .ok (.iconst 1, 1) := dk_4 (dk_at dksX22_holds_1 13 rfl rfl)
theorem dX22_holds_38 : decode cX22_holds 38 = .ok (.goto 58, 3) := dk_167 0 58 (dk_at dksX22_holds_1 14 rfl rfl)
theorem dX22_holds_41 : decode cX22_holds 41 = .ok (.iconst 0, 1) := dk_3 (dk_at dksX22_holds_1 17 rfl rfl)
theorem dX22_holds_42 : decode cX22_holds 42 = .ok (.goto 54, 3) := dk_167 0 54 (dk_at dksX22_holds_1 18 rfl rfl)
theorem dX22_holds_45 : decode cX22_holds 45 = .ok (.iload_n 2, 1) := dk_28 (dk_at dksX22_holds_1 21 rfl rfl)
theorem dX22_holds_46 : decode cX22_holds 46 = .ok (.ifCond .le 24, 3) := dk_158 0 24 (dk_at dksX22_holds_2 0 rfl rfl)
theorem dX22_holds_49 : decode cX22_holds 49 = .ok (.aload_n 0, 1) := dk_42 (dk_at dksX22_holds_2 3 rfl rfl)
theorem dX22_holds_50 : decode cX22_holds 50 = .ok (.getfield 7, 3) := dk_180 0 7 (dk_at dksX22_holds_2 4 rfl rfl)
theorem dX22_holds_53 : decode cX22_holds 53 = .ok (.iconst 0, 1) := dk_3 (dk_at dksX22_holds_2 7 rfl rfl)
theorem dX22_holds_54 : decode cX22_holds 54 = .ok (.invokevirtual 32, 3) := dk_182 0 32 (dk_at dksX22_holds_2 8 rfl rfl)
theorem dX22_holds_57 : decode cX22_holds 57 = .ok (.bipush 62, 2) := dk_16 62 (dk_at dksX22_holds_2 11 rfl rfl)
theorem dX22_holds_59 : decode cX22_holds 59 = .ok (.if_icmp .ne 7, 3) := dk_160 0 7 (dk_at dksX22_holds_2 13 rfl rfl)
theorem dX22_holds_62 : decode cX22_holds 62 = .ok (.iconst 1, 1) := dk_4 (dk_at dksX22_holds_2 16 rfl rfl)
theorem dX22_holds_63 : decode cX22_holds 63 = .ok (.goto 33, 3) := dk_167 0 33 (dk_at dksX22_holds_2 17 rfl rfl)
theorem dX22_holds_66 : decode cX22_holds 66 = .ok (.iconst 0, 1) := dk_3 (dk_at dksX22_holds_2 20 rfl rfl)
theorem dX22_holds_67 : decode cX22_holds 67 = .ok (.goto 29, 3) := dk_167 0 29 (dk_at dksX22_holds_2 21 rfl rfl)
theorem dX22_holds_70 : decode cX22_holds 70 = .ok (.aload_n 0, 1) := dk_42 (dk_at dksX22_holds_3 0 rfl rfl)
theorem dX22_holds_71 : decode cX22_holds 71 = .ok (.getfield 7, 3) := dk_180 0 7 (dk_at dksX22_holds_3 1 rfl rfl)
theorem dX22_holds_74 : decode cX22_holds 74 = .ok (.aload_n 0, 1) := dk_42 (dk_at dksX22_holds_3 4 rfl rfl)
theorem dX22_holds_75 : decode cX22_holds 75 = .ok (.getfield 7, 3) := dk_180 0 7 (dk_at dksX22_holds_3 5 rfl rfl)
theorem dX22_holds_78 : decode cX22_holds 78 = .ok (.invokevirtual 38, 3) := dk_182 0 38 (dk_at dksX22_holds_3 8 rfl rfl)
theorem dX22_holds_81 : decode cX22_holds 81 = .ok (.iconst 1, 1) := dk_4 (dk_at dksX22_holds_3 11 rfl rfl)
theorem dX22_holds_82 : decode cX22_holds 82 = .ok (.isub, 1) := dk_100 (dk_at dksX22_holds_3 12 rfl rfl)
theorem dX22_holds_83 : decode cX22_holds 83 = .ok (.invokevirtual 32, 3) := dk_182 0 32 (dk_at dksX22_holds_3 13 rfl rfl)
theorem dX22_holds_86 : decode cX22_holds 86 = .ok (.bipush 61, 2) := dk_16 61 (dk_at dksX22_holds_3 16 rfl rfl)
theorem dX22_holds_88 : decode cX22_holds 88 = .ok (.if_icmp .ne 7, 3) := dk_160 0 7 (dk_at dksX22_holds_3 18 rfl rfl)
theorem dX22_holds_91 : decode cX22_holds 91 = .ok (.iconst 1, 1) := dk_4 (dk_at dksX22_holds_3 21 rfl rfl)
theorem dX22_holds_92 : decode cX22_holds 92 = .ok (.goto 4, 3) := dk_167 0 4 (dk_at dksX22_holds_4 0 rfl rfl)
theorem dX22_holds_95 : decode cX22_holds 95 = .ok (.iconst 0, 1) := dk_3 (dk_at dksX22_holds_4 3 rfl rfl)
theorem dX22_holds_96 : decode cX22_holds 96 = .ok (.ireturn, 1) := dk_172 (dk_at dksX22_holds_4 4 rfl rfl)
theorem q158 : (Jvm.Cond.initialized "RingDomino$Compared") ∈ lw_all := lw_g (lw_at lw_m1 59 rfl) rfl
theorem q787 : (Jvm.Cond.selects "RingDomino$Compared" ({ cls := "java/lang/Object", name := "getClass", desc := "()Ljava/lang/Class;" } : Jvm.MethodName) ({ cls := "java/lang/Object", name := "getClass", desc := "()Ljava/lang/Class;" } : Jvm.MethodName)) ∈ lw_all := lw_g (lw_at lw_m3 208 rfl) rfl
theorem q1045 : (Jvm.Cond.selects "RingDomino$Compared" ({ cls := "java/lang/Object", name := "hashCode", desc := "()I" } : Jvm.MethodName) ({ cls := "java/lang/Object", name := "hashCode", desc := "()I" } : Jvm.MethodName)) ∈ lw_all := lw_g (lw_at lw_m4 226 rfl) rfl
theorem q1165 : (Jvm.Cond.selects "RingDomino$Compared" ({ cls := "java/lang/Object", name := "equals", desc := "(Ljava/lang/Object;)Z" } : Jvm.MethodName) ({ cls := "java/lang/Object", name := "equals", desc := "(Ljava/lang/Object;)Z" } : Jvm.MethodName)) ∈ lw_all := lw_g (lw_at lw_m5 106 rfl) rfl
theorem q1921 : (Jvm.Cond.instantiable "RingDomino$Compared" (3 : Nat)) ∈ lw_all := lw_g (lw_at lw_m8 142 rfl) rfl
theorem q1923 : (Jvm.Cond.instanceMethod ({ cls := "RingDomino$Compared", name := "<init>", desc := "(Ljava/lang/String;LRingDomino$Sum;LRingDomino$Sum;)V" } : Jvm.MethodName)) ∈ lw_all := lw_g (lw_at lw_m8 144 rfl) rfl
theorem q1924 : (Jvm.Cond.code ({ cls := "RingDomino$Compared", name := "<init>", desc := "(Ljava/lang/String;LRingDomino$Sum;LRingDomino$Sum;)V" } : Jvm.MethodName) prog_3_method_1_code (4 : Nat) (Option.none : Option Jvm.ClassFile.FieldType)) ∈ lw_all := lw_g (lw_at lw_m8 145 rfl) rfl
theorem q1925 : (Jvm.Cond.methodLink "RingDomino$Compared" (1 : Nat) ({ cls := "java/lang/Object", name := "<init>", desc := "()V" } : Jvm.MethodName)) ∈ lw_all := lw_g (lw_at lw_m8 146 rfl) rfl
theorem q1926 : (Jvm.Cond.fieldLink "RingDomino$Compared" (7 : Nat) "RingDomino$Compared" "sign" "Ljava/lang/String;") ∈ lw_all := lw_g (lw_at lw_m8 147 rfl) rfl
theorem q1927 : (Jvm.Cond.fieldLink "RingDomino$Compared" (13 : Nat) "RingDomino$Compared" "left" "LRingDomino$Sum;") ∈ lw_all := lw_g (lw_at lw_m8 148 rfl) rfl
theorem q1928 : (Jvm.Cond.fieldLink "RingDomino$Compared" (17 : Nat) "RingDomino$Compared" "right" "LRingDomino$Sum;") ∈ lw_all := lw_g (lw_at lw_m8 149 rfl) rfl
theorem q1929 : (Jvm.Cond.laysFinal "RingDomino$Compared" "RingDomino$Compared" "sign" "Ljava/lang/String;") ∈ lw_all := lw_g (lw_at lw_m8 150 rfl) rfl
theorem q1930 : (Jvm.Cond.soleField "RingDomino$Compared" "sign") ∈ lw_all := lw_g (lw_at lw_m8 151 rfl) rfl
theorem q1931 : (Jvm.Cond.laysFinal "RingDomino$Compared" "RingDomino$Compared" "left" "LRingDomino$Sum;") ∈ lw_all := lw_g (lw_at lw_m8 152 rfl) rfl
theorem q1932 : (Jvm.Cond.soleField "RingDomino$Compared" "left") ∈ lw_all := lw_g (lw_at lw_m8 153 rfl) rfl
theorem q1933 : (Jvm.Cond.laysFinal "RingDomino$Compared" "RingDomino$Compared" "right" "LRingDomino$Sum;") ∈ lw_all := lw_g (lw_at lw_m8 154 rfl) rfl
theorem q1934 : (Jvm.Cond.soleField "RingDomino$Compared" "right") ∈ lw_all := lw_g (lw_at lw_m8 155 rfl) rfl
theorem q1935 : (Jvm.Cond.superclass "RingDomino$Compared" "java/lang/Object") ∈ lw_all := lw_g (lw_at lw_m8 156 rfl) rfl
theorem q2166 : (Jvm.Cond.castable "RingDomino$Compared" "RingDomino$Test") ∈ lw_tbl := lw_at lw_m9 147 rfl
theorem q2167 : (Jvm.Cond.selects "RingDomino$Compared" ({ cls := "RingDomino$Test", name := "holds", desc := "(LRingDomino$Game;)Z" } : Jvm.MethodName) ({ cls := "RingDomino$Compared", name := "holds", desc := "(LRingDomino$Game;)Z" } : Jvm.MethodName)) ∈ lw_all := lw_g (lw_at lw_m9 148 rfl) rfl
theorem q2168 : (Jvm.Cond.unhidden "RingDomino$Compared" "holds" "(LRingDomino$Game;)Z") ∈ lw_tbl := lw_at lw_m9 149 rfl
theorem q2169 : (Jvm.Cond.instanceMethod ({ cls := "RingDomino$Compared", name := "holds", desc := "(LRingDomino$Game;)Z" } : Jvm.MethodName)) ∈ lw_all := lw_g (lw_at lw_m9 150 rfl) rfl
theorem q2170 : (Jvm.Cond.publicMethod ({ cls := "RingDomino$Compared", name := "holds", desc := "(LRingDomino$Game;)Z" } : Jvm.MethodName)) ∈ lw_tbl := lw_at lw_m9 151 rfl
theorem q2171 : (Jvm.Cond.code ({ cls := "RingDomino$Compared", name := "holds", desc := "(LRingDomino$Game;)Z" } : Jvm.MethodName) prog_3_method_2_code (3 : Nat) (Option.some Jvm.ClassFile.FieldType.boolean)) ∈ lw_all := lw_g (lw_at lw_m9 152 rfl) rfl
theorem q2172 : (Jvm.Cond.methodLink "RingDomino$Compared" (20 : Nat) ({ cls := "RingDomino$Sum", name := "of", desc := "(LRingDomino$Game;)I" } : Jvm.MethodName)) ∈ lw_all := lw_g (lw_at lw_m9 153 rfl) rfl
theorem q2259 : (Jvm.Cond.methodLink "RingDomino$Compared" (26 : Nat) ({ cls := "java/lang/Integer", name := "compare", desc := "(II)I" } : Jvm.MethodName)) ∈ lw_all := lw_g (lw_at lw_m10 0 rfl) rfl
theorem q2260 : (Jvm.Cond.methodLink "RingDomino$Compared" (32 : Nat) ({ cls := "java/lang/String", name := "charAt", desc := "(I)C" } : Jvm.MethodName)) ∈ lw_all := lw_g (lw_at lw_m10 1 rfl) rfl
theorem q2261 : (Jvm.Cond.methodLink "RingDomino$Compared" (38 : Nat) ({ cls := "java/lang/String", name := "length", desc := "()I" } : Jvm.MethodName)) ∈ lw_all := lw_g (lw_at lw_m10 2 rfl) rfl
theorem q3449 : (Jvm.Cond.castable "RingDomino$Compared" "java/lang/Object") ∈ lw_tbl := lw_at lw_m14 230 rfl
theorem in_X22 : ∀ w ∈ wsX220, w ∈ lw_all := lw_in wsX220 [1929, 1931, 1933] (by decide +kernel) (by decide +kernel)

/-! RingDomino$Test -/
def RX23 : String := "RingDomino$Test"
abbrev cX23_always : ByteArray := prog_30_method_2_code
def yX23_always : MethodName := ⟨RX23, "always", "()LRingDomino$Test;"⟩
def dkwX23_always_0 : List UInt8 := [187, 0, 1, 89, 183, 0, 3, 176]
abbrev dktX23_always_0 : List UInt8 := dkwX23_always_0 ++ []
theorem dksX23_always_0 : cX23_always.data.toList.drop 0 = dktX23_always_0 := by decide +kernel
theorem dX23_always_0 : decode cX23_always 0 = .ok (.new 1, 3) := dk_187 0 1 (dk_at dksX23_always_0 0 rfl rfl)
theorem dX23_always_3 : decode cX23_always 3 = .ok (.dup, 1) := dk_89 (dk_at dksX23_always_0 3 rfl rfl)
theorem dX23_always_4 : decode cX23_always 4 = .ok (.invokespecial 3, 3) := dk_183 0 3 (dk_at dksX23_always_0 4 rfl rfl)
theorem dX23_always_7 : decode cX23_always 7 = .ok (.areturn, 1) := dk_176 (dk_at dksX23_always_0 7 rfl rfl)
theorem q159 : (Jvm.Cond.initialized "RingDomino$Test") ∈ lw_all := lw_g (lw_at lw_m1 60 rfl) rfl
theorem q1940 : (Jvm.Cond.static ({ cls := "RingDomino$Test", name := "always", desc := "()LRingDomino$Test;" } : Jvm.MethodName)) ∈ lw_all := lw_g (lw_at lw_m8 161 rfl) rfl
theorem q1941 : (Jvm.Cond.code ({ cls := "RingDomino$Test", name := "always", desc := "()LRingDomino$Test;" } : Jvm.MethodName) prog_30_method_2_code (0 : Nat) (Option.some (Jvm.ClassFile.FieldType.object "RingDomino$Test"))) ∈ lw_all := lw_g (lw_at lw_m8 162 rfl) rfl
theorem q1942 : (Jvm.Cond.classLink "RingDomino$Test" (1 : Nat) "RingDomino$Test$1") ∈ lw_all := lw_g (lw_at lw_m8 163 rfl) rfl
theorem q1944 : (Jvm.Cond.methodLink "RingDomino$Test" (3 : Nat) ({ cls := "RingDomino$Test$1", name := "<init>", desc := "()V" } : Jvm.MethodName)) ∈ lw_all := lw_g (lw_at lw_m8 165 rfl) rfl
theorem q2164 : (Jvm.Cond.interfaceMethod "RingDomino$Test" "RingDomino$Test" "holds" "(LRingDomino$Game;)Z") ∈ lw_tbl := lw_at lw_m9 145 rfl
theorem q2165 : (Jvm.Cond.declares ({ cls := "RingDomino$Test", name := "holds", desc := "(LRingDomino$Game;)Z" } : Jvm.MethodName)) ∈ lw_tbl := lw_at lw_m9 146 rfl

/-! RingDomino$Test$1 -/
def RX24 : String := "RingDomino$Test$1"
abbrev cX24_init : ByteArray := prog_31_method_1_code
def yX24_init : MethodName := ⟨RX24, "<init>", "()V"⟩
theorem dX24_init_0 : decode cX24_init 0 = .ok (.aload_n 0, 1) := by decide +kernel
theorem dX24_init_1 : decode cX24_init 1 = .ok (.invokespecial 1, 3) := by decide +kernel
theorem dX24_init_4 : decode cX24_init 4 = .ok (.return_, 1) := by decide +kernel
abbrev cX24_holds : ByteArray := prog_31_method_2_code
def yX24_holds : MethodName := ⟨RX24, "holds", "(LRingDomino$Game;)Z"⟩
theorem dX24_holds_0 : decode cX24_holds 0 = .ok (.iconst 1, 1) := by decide +kernel
theorem dX24_holds_1 : decode cX24_holds 1 = .ok (.ireturn, 1) := by decide +kernel
theorem q160 : (Jvm.Cond.initialized "RingDomino$Test$1") ∈ lw_all := lw_g (lw_at lw_m1 61 rfl) rfl
theorem q811 : (Jvm.Cond.selects "RingDomino$Test$1" ({ cls := "java/lang/Object", name := "getClass", desc := "()Ljava/lang/Class;" } : Jvm.MethodName) ({ cls := "java/lang/Object", name := "getClass", desc := "()Ljava/lang/Class;" } : Jvm.MethodName)) ∈ lw_all := lw_g (lw_at lw_m3 232 rfl) rfl
theorem q1074 : (Jvm.Cond.selects "RingDomino$Test$1" ({ cls := "java/lang/Object", name := "hashCode", desc := "()I" } : Jvm.MethodName) ({ cls := "java/lang/Object", name := "hashCode", desc := "()I" } : Jvm.MethodName)) ∈ lw_all := lw_g (lw_at lw_m5 15 rfl) rfl
theorem q1191 : (Jvm.Cond.selects "RingDomino$Test$1" ({ cls := "java/lang/Object", name := "equals", desc := "(Ljava/lang/Object;)Z" } : Jvm.MethodName) ({ cls := "java/lang/Object", name := "equals", desc := "(Ljava/lang/Object;)Z" } : Jvm.MethodName)) ∈ lw_all := lw_g (lw_at lw_m5 132 rfl) rfl
theorem q1943 : (Jvm.Cond.instantiable "RingDomino$Test$1" (0 : Nat)) ∈ lw_all := lw_g (lw_at lw_m8 164 rfl) rfl
theorem q1945 : (Jvm.Cond.instanceMethod ({ cls := "RingDomino$Test$1", name := "<init>", desc := "()V" } : Jvm.MethodName)) ∈ lw_all := lw_g (lw_at lw_m8 166 rfl) rfl
theorem q1946 : (Jvm.Cond.code ({ cls := "RingDomino$Test$1", name := "<init>", desc := "()V" } : Jvm.MethodName) prog_31_method_1_code (1 : Nat) (Option.none : Option Jvm.ClassFile.FieldType)) ∈ lw_all := lw_g (lw_at lw_m8 167 rfl) rfl
theorem q1947 : (Jvm.Cond.methodLink "RingDomino$Test$1" (1 : Nat) ({ cls := "java/lang/Object", name := "<init>", desc := "()V" } : Jvm.MethodName)) ∈ lw_all := lw_g (lw_at lw_m8 168 rfl) rfl
theorem q1948 : (Jvm.Cond.superclass "RingDomino$Test$1" "java/lang/Object") ∈ lw_all := lw_g (lw_at lw_m8 169 rfl) rfl
theorem q2295 : (Jvm.Cond.castable "RingDomino$Test$1" "RingDomino$Test") ∈ lw_tbl := lw_at lw_m10 36 rfl
theorem q2296 : (Jvm.Cond.selects "RingDomino$Test$1" ({ cls := "RingDomino$Test", name := "holds", desc := "(LRingDomino$Game;)Z" } : Jvm.MethodName) ({ cls := "RingDomino$Test$1", name := "holds", desc := "(LRingDomino$Game;)Z" } : Jvm.MethodName)) ∈ lw_all := lw_g (lw_at lw_m10 37 rfl) rfl
theorem q2297 : (Jvm.Cond.unhidden "RingDomino$Test$1" "holds" "(LRingDomino$Game;)Z") ∈ lw_tbl := lw_at lw_m10 38 rfl
theorem q2298 : (Jvm.Cond.instanceMethod ({ cls := "RingDomino$Test$1", name := "holds", desc := "(LRingDomino$Game;)Z" } : Jvm.MethodName)) ∈ lw_all := lw_g (lw_at lw_m10 39 rfl) rfl
theorem q2299 : (Jvm.Cond.publicMethod ({ cls := "RingDomino$Test$1", name := "holds", desc := "(LRingDomino$Game;)Z" } : Jvm.MethodName)) ∈ lw_tbl := lw_at lw_m10 40 rfl
theorem q2300 : (Jvm.Cond.code ({ cls := "RingDomino$Test$1", name := "holds", desc := "(LRingDomino$Game;)Z" } : Jvm.MethodName) prog_31_method_2_code (2 : Nat) (Option.some Jvm.ClassFile.FieldType.boolean)) ∈ lw_all := lw_g (lw_at lw_m10 41 rfl) rfl
theorem q3450 : (Jvm.Cond.castable "RingDomino$Test$1" "java/lang/Object") ∈ lw_tbl := lw_at lw_m14 231 rfl

/-! RingDomino$Way -/
def RX25 : String := "RingDomino$Way"
def TX25 : u_T := fun k => match k with
  | 0 => ("RingDomino$Way", "cell", "I", true)
  | _ => ("RingDomino$Way", "turn", "I", true)
def tyX25 : Nat → FieldType := fun k => match k with
  | 0 => .int
  | _ => .int
abbrev wsX250 : List Cond := u_ws RX25 TX25 2
theorem nmX25 : ∀ a, a < 2 → ∀ b, b < 2 → a ≠ b → (TX25 a).2.1 ≠ (TX25 b).2.1 := by decide +kernel
theorem tyX25_ok : ∀ k, k < 2 → parseFieldDescriptor (TX25 k).2.2.1 = some (tyX25 k) := by decide +kernel
abbrev cX25_init : ByteArray := prog_35_method_1_code
def yX25_init : MethodName := ⟨RX25, "<init>", "(II)V"⟩
def dkwX25_init_0 : List UInt8 := [42, 183, 0, 1, 42, 27, 181, 0, 7, 42, 28, 181, 0, 13, 177]
abbrev dktX25_init_0 : List UInt8 := dkwX25_init_0 ++ []
theorem dksX25_init_0 : cX25_init.data.toList.drop 0 = dktX25_init_0 := by decide +kernel
theorem dX25_init_0 : decode cX25_init 0 = .ok (.aload_n 0, 1) := dk_42 (dk_at dksX25_init_0 0 rfl rfl)
theorem dX25_init_1 : decode cX25_init 1 = .ok (.invokespecial 1, 3) := dk_183 0 1 (dk_at dksX25_init_0 1 rfl rfl)
theorem dX25_init_4 : decode cX25_init 4 = .ok (.aload_n 0, 1) := dk_42 (dk_at dksX25_init_0 4 rfl rfl)
theorem dX25_init_5 : decode cX25_init 5 = .ok (.iload_n 1, 1) := dk_27 (dk_at dksX25_init_0 5 rfl rfl)
theorem dX25_init_6 : decode cX25_init 6 = .ok (.putfield 7, 3) := dk_181 0 7 (dk_at dksX25_init_0 6 rfl rfl)
theorem dX25_init_9 : decode cX25_init 9 = .ok (.aload_n 0, 1) := dk_42 (dk_at dksX25_init_0 9 rfl rfl)
theorem dX25_init_10 : decode cX25_init 10 = .ok (.iload_n 2, 1) := dk_28 (dk_at dksX25_init_0 10 rfl rfl)
theorem dX25_init_11 : decode cX25_init 11 = .ok (.putfield 13, 3) := dk_181 0 13 (dk_at dksX25_init_0 11 rfl rfl)
theorem dX25_init_14 : decode cX25_init 14 = .ok (.return_, 1) := dk_177 (dk_at dksX25_init_0 14 rfl rfl)
theorem q163 : (Jvm.Cond.initialized "RingDomino$Way") ∈ lw_all := lw_g (lw_at lw_m1 64 rfl) rfl
theorem q815 : (Jvm.Cond.selects "RingDomino$Way" ({ cls := "java/lang/Object", name := "getClass", desc := "()Ljava/lang/Class;" } : Jvm.MethodName) ({ cls := "java/lang/Object", name := "getClass", desc := "()Ljava/lang/Class;" } : Jvm.MethodName)) ∈ lw_all := lw_g (lw_at lw_m3 236 rfl) rfl
theorem q1078 : (Jvm.Cond.selects "RingDomino$Way" ({ cls := "java/lang/Object", name := "hashCode", desc := "()I" } : Jvm.MethodName) ({ cls := "java/lang/Object", name := "hashCode", desc := "()I" } : Jvm.MethodName)) ∈ lw_all := lw_g (lw_at lw_m5 19 rfl) rfl
theorem q1195 : (Jvm.Cond.selects "RingDomino$Way" ({ cls := "java/lang/Object", name := "equals", desc := "(Ljava/lang/Object;)Z" } : Jvm.MethodName) ({ cls := "java/lang/Object", name := "equals", desc := "(Ljava/lang/Object;)Z" } : Jvm.MethodName)) ∈ lw_all := lw_g (lw_at lw_m5 136 rfl) rfl
theorem q2336 : (Jvm.Cond.instantiable "RingDomino$Way" (2 : Nat)) ∈ lw_all := lw_g (lw_at lw_m10 77 rfl) rfl
theorem q2338 : (Jvm.Cond.instanceMethod ({ cls := "RingDomino$Way", name := "<init>", desc := "(II)V" } : Jvm.MethodName)) ∈ lw_all := lw_g (lw_at lw_m10 79 rfl) rfl
theorem q2339 : (Jvm.Cond.code ({ cls := "RingDomino$Way", name := "<init>", desc := "(II)V" } : Jvm.MethodName) prog_35_method_1_code (3 : Nat) (Option.none : Option Jvm.ClassFile.FieldType)) ∈ lw_all := lw_g (lw_at lw_m10 80 rfl) rfl
theorem q2340 : (Jvm.Cond.methodLink "RingDomino$Way" (1 : Nat) ({ cls := "java/lang/Object", name := "<init>", desc := "()V" } : Jvm.MethodName)) ∈ lw_all := lw_g (lw_at lw_m10 81 rfl) rfl
theorem q2341 : (Jvm.Cond.fieldLink "RingDomino$Way" (7 : Nat) "RingDomino$Way" "cell" "I") ∈ lw_all := lw_g (lw_at lw_m10 82 rfl) rfl
theorem q2344 : (Jvm.Cond.fieldLink "RingDomino$Way" (13 : Nat) "RingDomino$Way" "turn" "I") ∈ lw_all := lw_g (lw_at lw_m10 85 rfl) rfl
theorem q2347 : (Jvm.Cond.laysFinal "RingDomino$Way" "RingDomino$Way" "cell" "I") ∈ lw_all := lw_g (lw_at lw_m10 88 rfl) rfl
theorem q2348 : (Jvm.Cond.soleField "RingDomino$Way" "cell") ∈ lw_all := lw_g (lw_at lw_m10 89 rfl) rfl
theorem q2349 : (Jvm.Cond.laysFinal "RingDomino$Way" "RingDomino$Way" "turn" "I") ∈ lw_all := lw_g (lw_at lw_m10 90 rfl) rfl
theorem q2350 : (Jvm.Cond.soleField "RingDomino$Way" "turn") ∈ lw_all := lw_g (lw_at lw_m10 91 rfl) rfl
theorem q2351 : (Jvm.Cond.superclass "RingDomino$Way" "java/lang/Object") ∈ lw_all := lw_g (lw_at lw_m10 92 rfl) rfl
theorem q3453 : (Jvm.Cond.castable "RingDomino$Way" "java/lang/Object") ∈ lw_tbl := lw_at lw_m14 234 rfl
theorem in_X25 : ∀ w ∈ wsX250, w ∈ lw_all := lw_in wsX250 [2347, 2349] (by decide +kernel) (by decide +kernel)

/-! RingDomino$Craft$1 -/
def RX26 : String := "RingDomino$Craft$1"
abbrev cX26_carry : ByteArray := prog_5_method_2_code
def yX26_carry : MethodName := ⟨RX26, "carry", "(LRingDomino$Game;LRingDomino$Order;)Z"⟩
def dkwX26_carry_3 : List UInt8 := [29, 21, 4, 182, 0, 47, 153, 0, 7, 4, 167, 0, 4, 3, 172]
abbrev dktX26_carry_3 : List UInt8 := dkwX26_carry_3 ++ []
def dkwX26_carry_2 : List UInt8 := [184, 0, 30, 54, 4, 43, 44, 180, 0, 40, 29, 21, 4, 182, 0, 43, 153, 0, 21, 43, 44, 180, 0, 40]
abbrev dktX26_carry_2 : List UInt8 := dkwX26_carry_2 ++ dktX26_carry_3
def dkwX26_carry_1 : List UInt8 := [43, 182, 0, 21, 43, 180, 0, 9, 184, 0, 30, 96, 62, 44, 180, 0, 37, 43, 182, 0, 21, 16, 6]
abbrev dktX26_carry_1 : List UInt8 := dkwX26_carry_1 ++ dktX26_carry_2
def dkwX26_carry_0 : List UInt8 := [43, 180, 0, 9, 44, 180, 0, 15, 43, 182, 0, 21, 43, 180, 0, 27, 184, 0, 30, 104, 44, 180, 0, 34]
abbrev dktX26_carry_0 : List UInt8 := dkwX26_carry_0 ++ dktX26_carry_1
theorem dksX26_carry_0 : cX26_carry.data.toList.drop 0 = dktX26_carry_0 := by decide +kernel
theorem dksX26_carry_1 : cX26_carry.data.toList.drop 24 = dktX26_carry_1 := dk_seg dksX26_carry_0 24 rfl rfl
theorem dksX26_carry_2 : cX26_carry.data.toList.drop 47 = dktX26_carry_2 := dk_seg dksX26_carry_1 23 rfl rfl
theorem dksX26_carry_3 : cX26_carry.data.toList.drop 71 = dktX26_carry_3 := dk_seg dksX26_carry_2 24 rfl rfl
theorem dX26_carry_0 : decode cX26_carry 0 = .ok (.aload_n 1, 1) := dk_43 (dk_at dksX26_carry_0 0 rfl rfl)
theorem dX26_carry_1 : decode cX26_carry 1 = .ok (.getfield 9, 3) := dk_180 0 9 (dk_at dksX26_carry_0 1 rfl rfl)
theorem dX26_carry_4 : decode cX26_carry 4 = .ok (.aload_n 2, 1) := dk_44 (dk_at dksX26_carry_0 4 rfl rfl)
theorem dX26_carry_5 : decode cX26_carry 5 = .ok (.getfield 15, 3) := dk_180 0 15 (dk_at dksX26_carry_0 5 rfl rfl)
theorem dX26_carry_8 : decode cX26_carry 8 = .ok (.aload_n 1, 1) := dk_43 (dk_at dksX26_carry_0 8 rfl rfl)
theorem dX26_carry_9 : decode cX26_carry 9 = .ok (.invokevirtual 21, 3) := dk_182 0 21 (dk_at dksX26_carry_0 9 rfl rfl)
theorem dX26_carry_12 : decode cX26_carry 12 = .ok (.aload_n 1, 1) := dk_43 (dk_at dksX26_carry_0 12 rfl rfl)
theorem dX26_carry_13 : decode cX26_carry 13 = .ok (.getfield 27, 3) := dk_180 0 27 (dk_at dksX26_carry_0 13 rfl rfl)
theorem dX26_carry_16 : decode cX26_carry 16 = .ok (.invokestatic 30, 3) := dk_184 0 30 (dk_at dksX26_carry_0 16 rfl rfl)
theorem dX26_carry_19 : decode cX26_carry 19 = .ok (.imul, 1) := dk_104 (dk_at dksX26_carry_0 19 rfl rfl)
theorem dX26_carry_20 : decode cX26_carry 20 = .ok (.aload_n 2, 1) := dk_44 (dk_at dksX26_carry_0 20 rfl rfl)
theorem dX26_carry_21 : decode cX26_carry 21 = .ok (.getfield 34, 3) := dk_180 0 34 (dk_at dksX26_carry_0 21 rfl rfl)
theorem dX26_carry_24 : decode cX26_carry 24 = .ok (.aload_n 1, 1) := dk_43 (dk_at dksX26_carry_1 0 rfl rfl)
theorem dX26_carry_25 : decode cX26_carry 25 = .ok (.invokevirtual 21, 3) := dk_182 0 21 (dk_at dksX26_carry_1 1 rfl rfl)
theorem dX26_carry_28 : decode cX26_carry 28 = .ok (.aload_n 1, 1) := dk_43 (dk_at dksX26_carry_1 4 rfl rfl)
theorem dX26_carry_29 : decode cX26_carry 29 = .ok (.getfield 9, 3) := dk_180 0 9 (dk_at dksX26_carry_1 5 rfl rfl)
theorem dX26_carry_32 : decode cX26_carry 32 = .ok (.invokestatic 30, 3) := dk_184 0 30 (dk_at dksX26_carry_1 8 rfl rfl)
theorem dX26_carry_35 : decode cX26_carry 35 = .ok (.iadd, 1) := dk_96 (dk_at dksX26_carry_1 11 rfl rfl)
theorem dX26_carry_36 : decode cX26_carry 36 = .ok (.istore_n 3, 1) := dk_62 (dk_at dksX26_carry_1 12 rfl rfl)
theorem dX26_carry_37 : decode cX26_carry 37 = .ok (.aload_n 2, 1) := dk_44 (dk_at dksX26_carry_1 13 rfl rfl)
theorem dX26_carry_38 : decode cX26_carry 38 = .ok (.getfield 37, 3) := dk_180 0 37 (dk_at dksX26_carry_1 14 rfl rfl)
theorem dX26_carry_41 : decode cX26_carry 41 = .ok (.aload_n 1, 1) := dk_43 (dk_at dksX26_carry_1 17 rfl rfl)
theorem dX26_carry_42 : decode cX26_carry 42 = .ok (.invokevirtual 21, 3) := dk_182 0 21 (dk_at dksX26_carry_1 18 rfl rfl)
theorem dX26_carry_45 : decode cX26_carry 45 = .ok (.bipush 6, 2) := dk_16 6 (dk_at dksX26_carry_1 21 rfl rfl)
theorem dX26_carry_47 : decode cX26_carry 47 = .ok (.invokestatic 30, 3) := dk_184 0 30 (dk_at dksX26_carry_2 0 rfl rfl)
theorem dX26_carry_50 : decode cX26_carry 50 = .ok (.istore 4, 2) := dk_54 4 (dk_at dksX26_carry_2 3 rfl rfl)
theorem dX26_carry_52 : decode cX26_carry 52 = .ok (.aload_n 1, 1) := dk_43 (dk_at dksX26_carry_2 5 rfl rfl)
theorem dX26_carry_53 : decode cX26_carry 53 = .ok (.aload_n 2, 1) := dk_44 (dk_at dksX26_carry_2 6 rfl rfl)
theorem dX26_carry_54 : decode cX26_carry 54 = .ok (.getfield 40, 3) := dk_180 0 40 (dk_at dksX26_carry_2 7 rfl rfl)
theorem dX26_carry_57 : decode cX26_carry 57 = .ok (.iload_n 3, 1) := dk_29 (dk_at dksX26_carry_2 10 rfl rfl)
theorem dX26_carry_58 : decode cX26_carry 58 = .ok (.iload 4, 2) := dk_21 4 (dk_at dksX26_carry_2 11 rfl rfl)
theorem dX26_carry_60 : decode cX26_carry 60 = .ok (.invokevirtual 43, 3) := dk_182 0 43 (dk_at dksX26_carry_2 13 rfl rfl)
theorem dX26_carry_63 : decode cX26_carry 63 = .ok (.ifCond .eq 21, 3) := dk_153 0 21 (dk_at dksX26_carry_2 16 rfl rfl)
theorem dX26_carry_66 : decode cX26_carry 66 = .ok (.aload_n 1, 1) := dk_43 (dk_at dksX26_carry_2 19 rfl rfl)
theorem dX26_carry_67 : decode cX26_carry 67 = .ok (.aload_n 2, 1) := dk_44 (dk_at dksX26_carry_2 20 rfl rfl)
theorem dX26_carry_68 : decode cX26_carry 68 = .ok (.getfield 40, 3) := dk_180 0 40 (dk_at dksX26_carry_2 21 rfl rfl)
theorem dX26_carry_71 : decode cX26_carry 71 = .ok (.iload_n 3, 1) := dk_29 (dk_at dksX26_carry_3 0 rfl rfl)
theorem dX26_carry_72 : decode cX26_carry 72 = .ok (.iload 4, 2) := dk_21 4 (dk_at dksX26_carry_3 1 rfl rfl)
theorem dX26_carry_74 : decode cX26_carry 74 = .ok (.invokevirtual 47, 3) := dk_182 0 47 (dk_at dksX26_carry_3 3 rfl rfl)
theorem dX26_carry_77 : decode cX26_carry 77 = .ok (.ifCond .eq 7, 3) := dk_153 0 7 (dk_at dksX26_carry_3 6 rfl rfl)
theorem dX26_carry_80 : decode cX26_carry 80 = .ok (.iconst 1, 1) := dk_4 (dk_at dksX26_carry_3 9 rfl rfl)
theorem dX26_carry_81 : decode cX26_carry 81 = .ok (.goto 4, 3) := dk_167 0 4 (dk_at dksX26_carry_3 10 rfl rfl)
theorem dX26_carry_84 : decode cX26_carry 84 = .ok (.iconst 0, 1) := dk_3 (dk_at dksX26_carry_3 13 rfl rfl)
theorem dX26_carry_85 : decode cX26_carry 85 = .ok (.ireturn, 1) := dk_172 (dk_at dksX26_carry_3 14 rfl rfl)
theorem q226 : (Jvm.Cond.fieldLinkNest "RingDomino$Craft$1" (9 : Nat) "RingDomino$Game" "columns" "I" "RingDomino") ∈ lw_tbl := lw_at lw_m1 127 rfl
theorem q230 : (Jvm.Cond.fieldLinkNest "RingDomino$Craft$1" (27 : Nat) "RingDomino$Game" "rows" "I" "RingDomino") ∈ lw_tbl := lw_at lw_m1 131 rfl
theorem q788 : (Jvm.Cond.selects "RingDomino$Craft$1" ({ cls := "java/lang/Object", name := "getClass", desc := "()Ljava/lang/Class;" } : Jvm.MethodName) ({ cls := "java/lang/Object", name := "getClass", desc := "()Ljava/lang/Class;" } : Jvm.MethodName)) ∈ lw_all := lw_g (lw_at lw_m3 209 rfl) rfl
theorem q1046 : (Jvm.Cond.selects "RingDomino$Craft$1" ({ cls := "java/lang/Object", name := "hashCode", desc := "()I" } : Jvm.MethodName) ({ cls := "java/lang/Enum", name := "hashCode", desc := "()I" } : Jvm.MethodName)) ∈ lw_all := lw_g (lw_at lw_m4 227 rfl) rfl
theorem q1166 : (Jvm.Cond.selects "RingDomino$Craft$1" ({ cls := "java/lang/Object", name := "equals", desc := "(Ljava/lang/Object;)Z" } : Jvm.MethodName) ({ cls := "java/lang/Enum", name := "equals", desc := "(Ljava/lang/Object;)Z" } : Jvm.MethodName)) ∈ lw_all := lw_g (lw_at lw_m5 107 rfl) rfl
theorem q1250 : (Jvm.Cond.castable "RingDomino$Craft$1" "java/lang/Comparable") ∈ lw_tbl := lw_at lw_m5 191 rfl
theorem q1251 : (Jvm.Cond.selects "RingDomino$Craft$1" ({ cls := "java/lang/Comparable", name := "compareTo", desc := "(Ljava/lang/Object;)I" } : Jvm.MethodName) ({ cls := "java/lang/Enum", name := "compareTo", desc := "(Ljava/lang/Object;)I" } : Jvm.MethodName)) ∈ lw_all := lw_g (lw_at lw_m5 192 rfl) rfl
theorem q1252 : (Jvm.Cond.unhidden "RingDomino$Craft$1" "compareTo" "(Ljava/lang/Object;)I") ∈ lw_tbl := lw_at lw_m5 193 rfl
theorem q1260 : (Jvm.Cond.selects "RingDomino$Craft$1" ({ cls := "java/lang/Enum", name := "compareTo", desc := "(Ljava/lang/Enum;)I" } : Jvm.MethodName) ({ cls := "java/lang/Enum", name := "compareTo", desc := "(Ljava/lang/Enum;)I" } : Jvm.MethodName)) ∈ lw_all := lw_g (lw_at lw_m5 201 rfl) rfl
theorem q1283 : (Jvm.Cond.selects "RingDomino$Craft$1" ({ cls := "java/lang/Enum", name := "getDeclaringClass", desc := "()Ljava/lang/Class;" } : Jvm.MethodName) ({ cls := "java/lang/Enum", name := "getDeclaringClass", desc := "()Ljava/lang/Class;" } : Jvm.MethodName)) ∈ lw_all := lw_g (lw_at lw_m5 224 rfl) rfl
theorem q1958 : (Jvm.Cond.fieldLinkNest "RingDomino$Craft$1" (40 : Nat) "RingDomino$Order" "tile" "I" "RingDomino") ∈ lw_tbl := lw_at lw_m8 179 rfl
theorem q1960 : (Jvm.Cond.fieldLinkNest "RingDomino$Craft$1" (34 : Nat) "RingDomino$Order" "column" "LRingDomino$Sum;" "RingDomino") ∈ lw_tbl := lw_at lw_m8 181 rfl
theorem q1962 : (Jvm.Cond.fieldLinkNest "RingDomino$Craft$1" (15 : Nat) "RingDomino$Order" "row" "LRingDomino$Sum;" "RingDomino") ∈ lw_tbl := lw_at lw_m8 183 rfl
theorem q1964 : (Jvm.Cond.fieldLinkNest "RingDomino$Craft$1" (37 : Nat) "RingDomino$Order" "turn" "LRingDomino$Sum;" "RingDomino") ∈ lw_tbl := lw_at lw_m8 185 rfl
theorem q2304 : (Jvm.Cond.selects "RingDomino$Craft$1" ({ cls := "RingDomino$Craft", name := "carry", desc := "(LRingDomino$Game;LRingDomino$Order;)Z" } : Jvm.MethodName) ({ cls := "RingDomino$Craft$1", name := "carry", desc := "(LRingDomino$Game;LRingDomino$Order;)Z" } : Jvm.MethodName)) ∈ lw_all := lw_g (lw_at lw_m10 45 rfl) rfl
theorem q2305 : (Jvm.Cond.instanceMethod ({ cls := "RingDomino$Craft$1", name := "carry", desc := "(LRingDomino$Game;LRingDomino$Order;)Z" } : Jvm.MethodName)) ∈ lw_all := lw_g (lw_at lw_m10 46 rfl) rfl
theorem q2306 : (Jvm.Cond.code ({ cls := "RingDomino$Craft$1", name := "carry", desc := "(LRingDomino$Game;LRingDomino$Order;)Z" } : Jvm.MethodName) prog_5_method_2_code (5 : Nat) (Option.some Jvm.ClassFile.FieldType.boolean)) ∈ lw_all := lw_g (lw_at lw_m10 47 rfl) rfl
theorem q2307 : (Jvm.Cond.methodLink "RingDomino$Craft$1" (21 : Nat) ({ cls := "RingDomino$Sum", name := "of", desc := "(LRingDomino$Game;)I" } : Jvm.MethodName)) ∈ lw_all := lw_g (lw_at lw_m10 48 rfl) rfl
theorem q2308 : (Jvm.Cond.methodLinkNest "RingDomino$Craft$1" (30 : Nat) ({ cls := "RingDomino", name := "remainder", desc := "(II)I" } : Jvm.MethodName) "RingDomino") ∈ lw_tbl := lw_at lw_m10 49 rfl
theorem q2311 : (Jvm.Cond.methodLink "RingDomino$Craft$1" (43 : Nat) ({ cls := "RingDomino$Game", name := "fits", desc := "(III)Z" } : Jvm.MethodName)) ∈ lw_all := lw_g (lw_at lw_m10 52 rfl) rfl
theorem q2312 : (Jvm.Cond.methodLink "RingDomino$Craft$1" (47 : Nat) ({ cls := "RingDomino$Game", name := "put", desc := "(III)Z" } : Jvm.MethodName)) ∈ lw_all := lw_g (lw_at lw_m10 53 rfl) rfl
theorem q3380 : (Jvm.Cond.castable "RingDomino$Craft$1" "java/lang/Enum") ∈ lw_tbl := lw_at lw_m14 161 rfl
theorem q3423 : (Jvm.Cond.castable "RingDomino$Craft$1" "java/lang/Object") ∈ lw_tbl := lw_at lw_m14 204 rfl

/-! RingDomino$What$1 -/
def RX27 : String := "RingDomino$What$1"
abbrev cX27_of : ByteArray := prog_37_method_2_code
def yX27_of : MethodName := ⟨RX27, "of", "(LRingDomino$Game;I)I"⟩
theorem dX27_of_0 : decode cX27_of 0 = .ok (.aload_n 1, 1) := by decide +kernel
theorem dX27_of_1 : decode cX27_of 1 = .ok (.getfield 7, 3) := by decide +kernel
theorem dX27_of_4 : decode cX27_of 4 = .ok (.ireturn, 1) := by decide +kernel
theorem q237 : (Jvm.Cond.fieldLinkNest "RingDomino$What$1" (7 : Nat) "RingDomino$Game" "round" "I" "RingDomino") ∈ lw_tbl := lw_at lw_m1 138 rfl
theorem q816 : (Jvm.Cond.selects "RingDomino$What$1" ({ cls := "java/lang/Object", name := "getClass", desc := "()Ljava/lang/Class;" } : Jvm.MethodName) ({ cls := "java/lang/Object", name := "getClass", desc := "()Ljava/lang/Class;" } : Jvm.MethodName)) ∈ lw_all := lw_g (lw_at lw_m3 237 rfl) rfl
theorem q1079 : (Jvm.Cond.selects "RingDomino$What$1" ({ cls := "java/lang/Object", name := "hashCode", desc := "()I" } : Jvm.MethodName) ({ cls := "java/lang/Enum", name := "hashCode", desc := "()I" } : Jvm.MethodName)) ∈ lw_all := lw_g (lw_at lw_m5 20 rfl) rfl
theorem q1196 : (Jvm.Cond.selects "RingDomino$What$1" ({ cls := "java/lang/Object", name := "equals", desc := "(Ljava/lang/Object;)Z" } : Jvm.MethodName) ({ cls := "java/lang/Enum", name := "equals", desc := "(Ljava/lang/Object;)Z" } : Jvm.MethodName)) ∈ lw_all := lw_g (lw_at lw_m5 137 rfl) rfl
theorem q1271 : (Jvm.Cond.selects "RingDomino$What$1" ({ cls := "java/lang/Enum", name := "compareTo", desc := "(Ljava/lang/Enum;)I" } : Jvm.MethodName) ({ cls := "java/lang/Enum", name := "compareTo", desc := "(Ljava/lang/Enum;)I" } : Jvm.MethodName)) ∈ lw_all := lw_g (lw_at lw_m5 212 rfl) rfl
theorem q1294 : (Jvm.Cond.selects "RingDomino$What$1" ({ cls := "java/lang/Enum", name := "getDeclaringClass", desc := "()Ljava/lang/Class;" } : Jvm.MethodName) ({ cls := "java/lang/Enum", name := "getDeclaringClass", desc := "()Ljava/lang/Class;" } : Jvm.MethodName)) ∈ lw_all := lw_g (lw_at lw_m5 235 rfl) rfl
theorem q1332 : (Jvm.Cond.castable "RingDomino$What$1" "java/lang/Comparable") ∈ lw_tbl := lw_at lw_m6 33 rfl
theorem q1333 : (Jvm.Cond.selects "RingDomino$What$1" ({ cls := "java/lang/Comparable", name := "compareTo", desc := "(Ljava/lang/Object;)I" } : Jvm.MethodName) ({ cls := "java/lang/Enum", name := "compareTo", desc := "(Ljava/lang/Object;)I" } : Jvm.MethodName)) ∈ lw_all := lw_g (lw_at lw_m6 34 rfl) rfl
theorem q1334 : (Jvm.Cond.unhidden "RingDomino$What$1" "compareTo" "(Ljava/lang/Object;)I") ∈ lw_tbl := lw_at lw_m6 35 rfl
theorem q2181 : (Jvm.Cond.selects "RingDomino$What$1" ({ cls := "RingDomino$What", name := "of", desc := "(LRingDomino$Game;I)I" } : Jvm.MethodName) ({ cls := "RingDomino$What$1", name := "of", desc := "(LRingDomino$Game;I)I" } : Jvm.MethodName)) ∈ lw_all := lw_g (lw_at lw_m9 162 rfl) rfl
theorem q2182 : (Jvm.Cond.instanceMethod ({ cls := "RingDomino$What$1", name := "of", desc := "(LRingDomino$Game;I)I" } : Jvm.MethodName)) ∈ lw_all := lw_g (lw_at lw_m9 163 rfl) rfl
theorem q2183 : (Jvm.Cond.code ({ cls := "RingDomino$What$1", name := "of", desc := "(LRingDomino$Game;I)I" } : Jvm.MethodName) prog_37_method_2_code (3 : Nat) (Option.some Jvm.ClassFile.FieldType.int)) ∈ lw_all := lw_g (lw_at lw_m9 164 rfl) rfl
theorem q3391 : (Jvm.Cond.castable "RingDomino$What$1" "java/lang/Enum") ∈ lw_tbl := lw_at lw_m14 172 rfl
theorem q3427 : (Jvm.Cond.castable "RingDomino$What$1" "java/lang/Object") ∈ lw_tbl := lw_at lw_m14 208 rfl

/-! RingDomino$Craft$2 -/
def RX28 : String := "RingDomino$Craft$2"
abbrev cX28_carry : ByteArray := prog_6_method_2_code
def yX28_carry : MethodName := ⟨RX28, "carry", "(LRingDomino$Game;LRingDomino$Order;)Z"⟩
def dkwX28_carry_1 : List UInt8 := [167, 0, 4, 3, 172]
abbrev dktX28_carry_1 : List UInt8 := dkwX28_carry_1 ++ []
def dkwX28_carry_0 : List UInt8 := [43, 44, 180, 0, 7, 182, 0, 13, 153, 0, 18, 43, 44, 180, 0, 7, 182, 0, 19, 153, 0, 7, 4]
abbrev dktX28_carry_0 : List UInt8 := dkwX28_carry_0 ++ dktX28_carry_1
theorem dksX28_carry_0 : cX28_carry.data.toList.drop 0 = dktX28_carry_0 := by decide +kernel
theorem dksX28_carry_1 : cX28_carry.data.toList.drop 23 = dktX28_carry_1 := dk_seg dksX28_carry_0 23 rfl rfl
theorem dX28_carry_0 : decode cX28_carry 0 = .ok (.aload_n 1, 1) := dk_43 (dk_at dksX28_carry_0 0 rfl rfl)
theorem dX28_carry_1 : decode cX28_carry 1 = .ok (.aload_n 2, 1) := dk_44 (dk_at dksX28_carry_0 1 rfl rfl)
theorem dX28_carry_2 : decode cX28_carry 2 = .ok (.getfield 7, 3) := dk_180 0 7 (dk_at dksX28_carry_0 2 rfl rfl)
theorem dX28_carry_5 : decode cX28_carry 5 = .ok (.invokevirtual 13, 3) := dk_182 0 13 (dk_at dksX28_carry_0 5 rfl rfl)
theorem dX28_carry_8 : decode cX28_carry 8 = .ok (.ifCond .eq 18, 3) := dk_153 0 18 (dk_at dksX28_carry_0 8 rfl rfl)
theorem dX28_carry_11 : decode cX28_carry 11 = .ok (.aload_n 1, 1) := dk_43 (dk_at dksX28_carry_0 11 rfl rfl)
theorem dX28_carry_12 : decode cX28_carry 12 = .ok (.aload_n 2, 1) := dk_44 (dk_at dksX28_carry_0 12 rfl rfl)
theorem dX28_carry_13 : decode cX28_carry 13 = .ok (.getfield 7, 3) := dk_180 0 7 (dk_at dksX28_carry_0 13 rfl rfl)
theorem dX28_carry_16 : decode cX28_carry 16 = .ok (.invokevirtual 19, 3) := dk_182 0 19 (dk_at dksX28_carry_0 16 rfl rfl)
theorem dX28_carry_19 : decode cX28_carry 19 = .ok (.ifCond .eq 7, 3) := dk_153 0 7 (dk_at dksX28_carry_0 19 rfl rfl)
theorem dX28_carry_22 : decode cX28_carry 22 = .ok (.iconst 1, 1) := dk_4 (dk_at dksX28_carry_0 22 rfl rfl)
theorem dX28_carry_23 : decode cX28_carry 23 = .ok (.goto 4, 3) := dk_167 0 4 (dk_at dksX28_carry_1 0 rfl rfl)
theorem dX28_carry_26 : decode cX28_carry 26 = .ok (.iconst 0, 1) := dk_3 (dk_at dksX28_carry_1 3 rfl rfl)
theorem dX28_carry_27 : decode cX28_carry 27 = .ok (.ireturn, 1) := dk_172 (dk_at dksX28_carry_1 4 rfl rfl)
theorem q789 : (Jvm.Cond.selects "RingDomino$Craft$2" ({ cls := "java/lang/Object", name := "getClass", desc := "()Ljava/lang/Class;" } : Jvm.MethodName) ({ cls := "java/lang/Object", name := "getClass", desc := "()Ljava/lang/Class;" } : Jvm.MethodName)) ∈ lw_all := lw_g (lw_at lw_m3 210 rfl) rfl
theorem q1052 : (Jvm.Cond.selects "RingDomino$Craft$2" ({ cls := "java/lang/Object", name := "hashCode", desc := "()I" } : Jvm.MethodName) ({ cls := "java/lang/Enum", name := "hashCode", desc := "()I" } : Jvm.MethodName)) ∈ lw_all := lw_g (lw_at lw_m4 233 rfl) rfl
theorem q1169 : (Jvm.Cond.selects "RingDomino$Craft$2" ({ cls := "java/lang/Object", name := "equals", desc := "(Ljava/lang/Object;)Z" } : Jvm.MethodName) ({ cls := "java/lang/Enum", name := "equals", desc := "(Ljava/lang/Object;)Z" } : Jvm.MethodName)) ∈ lw_all := lw_g (lw_at lw_m5 110 rfl) rfl
theorem q1261 : (Jvm.Cond.selects "RingDomino$Craft$2" ({ cls := "java/lang/Enum", name := "compareTo", desc := "(Ljava/lang/Enum;)I" } : Jvm.MethodName) ({ cls := "java/lang/Enum", name := "compareTo", desc := "(Ljava/lang/Enum;)I" } : Jvm.MethodName)) ∈ lw_all := lw_g (lw_at lw_m5 202 rfl) rfl
theorem q1284 : (Jvm.Cond.selects "RingDomino$Craft$2" ({ cls := "java/lang/Enum", name := "getDeclaringClass", desc := "()Ljava/lang/Class;" } : Jvm.MethodName) ({ cls := "java/lang/Enum", name := "getDeclaringClass", desc := "()Ljava/lang/Class;" } : Jvm.MethodName)) ∈ lw_all := lw_g (lw_at lw_m5 225 rfl) rfl
theorem q1302 : (Jvm.Cond.castable "RingDomino$Craft$2" "java/lang/Comparable") ∈ lw_tbl := lw_at lw_m6 3 rfl
theorem q1303 : (Jvm.Cond.selects "RingDomino$Craft$2" ({ cls := "java/lang/Comparable", name := "compareTo", desc := "(Ljava/lang/Object;)I" } : Jvm.MethodName) ({ cls := "java/lang/Enum", name := "compareTo", desc := "(Ljava/lang/Object;)I" } : Jvm.MethodName)) ∈ lw_all := lw_g (lw_at lw_m6 4 rfl) rfl
theorem q1304 : (Jvm.Cond.unhidden "RingDomino$Craft$2" "compareTo" "(Ljava/lang/Object;)I") ∈ lw_tbl := lw_at lw_m6 5 rfl
theorem q1956 : (Jvm.Cond.fieldLinkNest "RingDomino$Craft$2" (7 : Nat) "RingDomino$Order" "tile" "I" "RingDomino") ∈ lw_tbl := lw_at lw_m8 177 rfl
theorem q2320 : (Jvm.Cond.selects "RingDomino$Craft$2" ({ cls := "RingDomino$Craft", name := "carry", desc := "(LRingDomino$Game;LRingDomino$Order;)Z" } : Jvm.MethodName) ({ cls := "RingDomino$Craft$2", name := "carry", desc := "(LRingDomino$Game;LRingDomino$Order;)Z" } : Jvm.MethodName)) ∈ lw_all := lw_g (lw_at lw_m10 61 rfl) rfl
theorem q2321 : (Jvm.Cond.instanceMethod ({ cls := "RingDomino$Craft$2", name := "carry", desc := "(LRingDomino$Game;LRingDomino$Order;)Z" } : Jvm.MethodName)) ∈ lw_all := lw_g (lw_at lw_m10 62 rfl) rfl
theorem q2322 : (Jvm.Cond.code ({ cls := "RingDomino$Craft$2", name := "carry", desc := "(LRingDomino$Game;LRingDomino$Order;)Z" } : Jvm.MethodName) prog_6_method_2_code (3 : Nat) (Option.some Jvm.ClassFile.FieldType.boolean)) ∈ lw_all := lw_g (lw_at lw_m10 63 rfl) rfl
theorem q2323 : (Jvm.Cond.methodLink "RingDomino$Craft$2" (13 : Nat) ({ cls := "RingDomino$Game", name := "isPlaced", desc := "(I)Z" } : Jvm.MethodName)) ∈ lw_all := lw_g (lw_at lw_m10 64 rfl) rfl
theorem q2324 : (Jvm.Cond.methodLink "RingDomino$Craft$2" (19 : Nat) ({ cls := "RingDomino$Game", name := "take", desc := "(I)Z" } : Jvm.MethodName)) ∈ lw_all := lw_g (lw_at lw_m10 65 rfl) rfl
theorem q3381 : (Jvm.Cond.castable "RingDomino$Craft$2" "java/lang/Enum") ∈ lw_tbl := lw_at lw_m14 162 rfl
theorem q3424 : (Jvm.Cond.castable "RingDomino$Craft$2" "java/lang/Object") ∈ lw_tbl := lw_at lw_m14 205 rfl

/-! RingDomino$Craft$3 -/
def RX29 : String := "RingDomino$Craft$3"
abbrev cX29_carry : ByteArray := prog_7_method_2_code
def yX29_carry : MethodName := ⟨RX29, "carry", "(LRingDomino$Game;LRingDomino$Order;)Z"⟩
def dkwX29_carry_1 : List UInt8 := [182, 0, 25, 192, 0, 29, 182, 0, 31, 153, 0, 7, 4, 167, 0, 4, 3, 172]
abbrev dktX29_carry_1 : List UInt8 := dkwX29_carry_1 ++ []
def dkwX29_carry_0 : List UInt8 := [43, 44, 180, 0, 7, 182, 0, 13, 78, 45, 182, 0, 19, 153, 0, 25, 43, 44, 180, 0, 7, 45]
abbrev dktX29_carry_0 : List UInt8 := dkwX29_carry_0 ++ dktX29_carry_1
theorem dksX29_carry_0 : cX29_carry.data.toList.drop 0 = dktX29_carry_0 := by decide +kernel
theorem dksX29_carry_1 : cX29_carry.data.toList.drop 22 = dktX29_carry_1 := dk_seg dksX29_carry_0 22 rfl rfl
theorem dX29_carry_0 : decode cX29_carry 0 = .ok (.aload_n 1, 1) := dk_43 (dk_at dksX29_carry_0 0 rfl rfl)
theorem dX29_carry_1 : decode cX29_carry 1 = .ok (.aload_n 2, 1) := dk_44 (dk_at dksX29_carry_0 1 rfl rfl)
theorem dX29_carry_2 : decode cX29_carry 2 = .ok (.getfield 7, 3) := dk_180 0 7 (dk_at dksX29_carry_0 2 rfl rfl)
theorem dX29_carry_5 : decode cX29_carry 5 = .ok (.invokevirtual 13, 3) := dk_182 0 13 (dk_at dksX29_carry_0 5 rfl rfl)
theorem dX29_carry_8 : decode cX29_carry 8 = .ok (.astore_n 3, 1) := dk_78 (dk_at dksX29_carry_0 8 rfl rfl)
theorem dX29_carry_9 : decode cX29_carry 9 = .ok (.aload_n 3, 1) := dk_45 (dk_at dksX29_carry_0 9 rfl rfl)
theorem dX29_carry_10 : decode cX29_carry 10 = .ok (.invokevirtual 19, 3) := dk_182 0 19 (dk_at dksX29_carry_0 10 rfl rfl)
theorem dX29_carry_13 : decode cX29_carry 13 = .ok (.ifCond .eq 25, 3) := dk_153 0 25 (dk_at dksX29_carry_0 13 rfl rfl)
theorem dX29_carry_16 : decode cX29_carry 16 = .ok (.aload_n 1, 1) := dk_43 (dk_at dksX29_carry_0 16 rfl rfl)
theorem dX29_carry_17 : decode cX29_carry 17 = .ok (.aload_n 2, 1) := dk_44 (dk_at dksX29_carry_0 17 rfl rfl)
theorem dX29_carry_18 : decode cX29_carry 18 = .ok (.getfield 7, 3) := dk_180 0 7 (dk_at dksX29_carry_0 18 rfl rfl)
theorem dX29_carry_21 : decode cX29_carry 21 = .ok (.aload_n 3, 1) := dk_45 (dk_at dksX29_carry_0 21 rfl rfl)
theorem dX29_carry_22 : decode cX29_carry 22 = .ok (.invokevirtual 25, 3) := dk_182 0 25 (dk_at dksX29_carry_1 0 rfl rfl)
theorem dX29_carry_25 : decode cX29_carry 25 = .ok (.checkcast 29, 3) := dk_192 0 29 (dk_at dksX29_carry_1 3 rfl rfl)
theorem dX29_carry_28 : decode cX29_carry 28 = .ok (.invokevirtual 31, 3) := dk_182 0 31 (dk_at dksX29_carry_1 6 rfl rfl)
theorem dX29_carry_31 : decode cX29_carry 31 = .ok (.ifCond .eq 7, 3) := dk_153 0 7 (dk_at dksX29_carry_1 9 rfl rfl)
theorem dX29_carry_34 : decode cX29_carry 34 = .ok (.iconst 1, 1) := dk_4 (dk_at dksX29_carry_1 12 rfl rfl)
theorem dX29_carry_35 : decode cX29_carry 35 = .ok (.goto 4, 3) := dk_167 0 4 (dk_at dksX29_carry_1 13 rfl rfl)
theorem dX29_carry_38 : decode cX29_carry 38 = .ok (.iconst 0, 1) := dk_3 (dk_at dksX29_carry_1 16 rfl rfl)
theorem dX29_carry_39 : decode cX29_carry 39 = .ok (.ireturn, 1) := dk_172 (dk_at dksX29_carry_1 17 rfl rfl)
theorem q790 : (Jvm.Cond.selects "RingDomino$Craft$3" ({ cls := "java/lang/Object", name := "getClass", desc := "()Ljava/lang/Class;" } : Jvm.MethodName) ({ cls := "java/lang/Object", name := "getClass", desc := "()Ljava/lang/Class;" } : Jvm.MethodName)) ∈ lw_all := lw_g (lw_at lw_m3 211 rfl) rfl
theorem q1053 : (Jvm.Cond.selects "RingDomino$Craft$3" ({ cls := "java/lang/Object", name := "hashCode", desc := "()I" } : Jvm.MethodName) ({ cls := "java/lang/Enum", name := "hashCode", desc := "()I" } : Jvm.MethodName)) ∈ lw_all := lw_g (lw_at lw_m4 234 rfl) rfl
theorem q1170 : (Jvm.Cond.selects "RingDomino$Craft$3" ({ cls := "java/lang/Object", name := "equals", desc := "(Ljava/lang/Object;)Z" } : Jvm.MethodName) ({ cls := "java/lang/Enum", name := "equals", desc := "(Ljava/lang/Object;)Z" } : Jvm.MethodName)) ∈ lw_all := lw_g (lw_at lw_m5 111 rfl) rfl
theorem q1262 : (Jvm.Cond.selects "RingDomino$Craft$3" ({ cls := "java/lang/Enum", name := "compareTo", desc := "(Ljava/lang/Enum;)I" } : Jvm.MethodName) ({ cls := "java/lang/Enum", name := "compareTo", desc := "(Ljava/lang/Enum;)I" } : Jvm.MethodName)) ∈ lw_all := lw_g (lw_at lw_m5 203 rfl) rfl
theorem q1285 : (Jvm.Cond.selects "RingDomino$Craft$3" ({ cls := "java/lang/Enum", name := "getDeclaringClass", desc := "()Ljava/lang/Class;" } : Jvm.MethodName) ({ cls := "java/lang/Enum", name := "getDeclaringClass", desc := "()Ljava/lang/Class;" } : Jvm.MethodName)) ∈ lw_all := lw_g (lw_at lw_m5 226 rfl) rfl
theorem q1305 : (Jvm.Cond.castable "RingDomino$Craft$3" "java/lang/Comparable") ∈ lw_tbl := lw_at lw_m6 6 rfl
theorem q1306 : (Jvm.Cond.selects "RingDomino$Craft$3" ({ cls := "java/lang/Comparable", name := "compareTo", desc := "(Ljava/lang/Object;)I" } : Jvm.MethodName) ({ cls := "java/lang/Enum", name := "compareTo", desc := "(Ljava/lang/Object;)I" } : Jvm.MethodName)) ∈ lw_all := lw_g (lw_at lw_m6 7 rfl) rfl
theorem q1307 : (Jvm.Cond.unhidden "RingDomino$Craft$3" "compareTo" "(Ljava/lang/Object;)I") ∈ lw_tbl := lw_at lw_m6 8 rfl
theorem q1957 : (Jvm.Cond.fieldLinkNest "RingDomino$Craft$3" (7 : Nat) "RingDomino$Order" "tile" "I" "RingDomino") ∈ lw_tbl := lw_at lw_m8 178 rfl
theorem q2328 : (Jvm.Cond.selects "RingDomino$Craft$3" ({ cls := "RingDomino$Craft", name := "carry", desc := "(LRingDomino$Game;LRingDomino$Order;)Z" } : Jvm.MethodName) ({ cls := "RingDomino$Craft$3", name := "carry", desc := "(LRingDomino$Game;LRingDomino$Order;)Z" } : Jvm.MethodName)) ∈ lw_all := lw_g (lw_at lw_m10 69 rfl) rfl
theorem q2329 : (Jvm.Cond.instanceMethod ({ cls := "RingDomino$Craft$3", name := "carry", desc := "(LRingDomino$Game;LRingDomino$Order;)Z" } : Jvm.MethodName)) ∈ lw_all := lw_g (lw_at lw_m10 70 rfl) rfl
theorem q2330 : (Jvm.Cond.code ({ cls := "RingDomino$Craft$3", name := "carry", desc := "(LRingDomino$Game;LRingDomino$Order;)Z" } : Jvm.MethodName) prog_7_method_2_code (4 : Nat) (Option.some Jvm.ClassFile.FieldType.boolean)) ∈ lw_all := lw_g (lw_at lw_m10 71 rfl) rfl
theorem q2331 : (Jvm.Cond.methodLink "RingDomino$Craft$3" (13 : Nat) ({ cls := "RingDomino$Game", name := "firstWay", desc := "(I)Ljava/util/Optional;" } : Jvm.MethodName)) ∈ lw_all := lw_g (lw_at lw_m10 72 rfl) rfl
theorem q2373 : (Jvm.Cond.methodLink "RingDomino$Craft$3" (19 : Nat) ({ cls := "java/util/Optional", name := "isPresent", desc := "()Z" } : Jvm.MethodName)) ∈ lw_all := lw_g (lw_at lw_m10 114 rfl) rfl
theorem q2377 : (Jvm.Cond.methodLink "RingDomino$Craft$3" (25 : Nat) ({ cls := "java/util/Optional", name := "get", desc := "()Ljava/lang/Object;" } : Jvm.MethodName)) ∈ lw_all := lw_g (lw_at lw_m10 118 rfl) rfl
theorem q2381 : (Jvm.Cond.classLink "RingDomino$Craft$3" (29 : Nat) "RingDomino$Way") ∈ lw_all := lw_g (lw_at lw_m10 122 rfl) rfl
theorem q2382 : (Jvm.Cond.methodLink "RingDomino$Craft$3" (31 : Nat) ({ cls := "RingDomino$Game", name := "put", desc := "(ILRingDomino$Way;)Z" } : Jvm.MethodName)) ∈ lw_all := lw_g (lw_at lw_m10 123 rfl) rfl
theorem q3382 : (Jvm.Cond.castable "RingDomino$Craft$3" "java/lang/Enum") ∈ lw_tbl := lw_at lw_m14 163 rfl
theorem q3425 : (Jvm.Cond.castable "RingDomino$Craft$3" "java/lang/Object") ∈ lw_tbl := lw_at lw_m14 206 rfl

/-! RingDomino$Sign$1 -/
def RX30 : String := "RingDomino$Sign$1"
abbrev cX30_join : ByteArray := prog_21_method_2_code
def yX30_join : MethodName := ⟨RX30, "join", "(II)I"⟩
def dkwX30_join_0 : List UInt8 := [27, 28, 96, 172]
abbrev dktX30_join_0 : List UInt8 := dkwX30_join_0 ++ []
theorem dksX30_join_0 : cX30_join.data.toList.drop 0 = dktX30_join_0 := by decide +kernel
theorem dX30_join_0 : decode cX30_join 0 = .ok (.iload_n 1, 1) := dk_27 (dk_at dksX30_join_0 0 rfl rfl)
theorem dX30_join_1 : decode cX30_join 1 = .ok (.iload_n 2, 1) := dk_28 (dk_at dksX30_join_0 1 rfl rfl)
theorem dX30_join_2 : decode cX30_join 2 = .ok (.iadd, 1) := dk_96 (dk_at dksX30_join_0 2 rfl rfl)
theorem dX30_join_3 : decode cX30_join 3 = .ok (.ireturn, 1) := dk_172 (dk_at dksX30_join_0 3 rfl rfl)
theorem q803 : (Jvm.Cond.selects "RingDomino$Sign$1" ({ cls := "java/lang/Object", name := "getClass", desc := "()Ljava/lang/Class;" } : Jvm.MethodName) ({ cls := "java/lang/Object", name := "getClass", desc := "()Ljava/lang/Class;" } : Jvm.MethodName)) ∈ lw_all := lw_g (lw_at lw_m3 224 rfl) rfl
theorem q1066 : (Jvm.Cond.selects "RingDomino$Sign$1" ({ cls := "java/lang/Object", name := "hashCode", desc := "()I" } : Jvm.MethodName) ({ cls := "java/lang/Enum", name := "hashCode", desc := "()I" } : Jvm.MethodName)) ∈ lw_all := lw_g (lw_at lw_m5 7 rfl) rfl
theorem q1183 : (Jvm.Cond.selects "RingDomino$Sign$1" ({ cls := "java/lang/Object", name := "equals", desc := "(Ljava/lang/Object;)Z" } : Jvm.MethodName) ({ cls := "java/lang/Enum", name := "equals", desc := "(Ljava/lang/Object;)Z" } : Jvm.MethodName)) ∈ lw_all := lw_g (lw_at lw_m5 124 rfl) rfl
theorem q1264 : (Jvm.Cond.selects "RingDomino$Sign$1" ({ cls := "java/lang/Enum", name := "compareTo", desc := "(Ljava/lang/Enum;)I" } : Jvm.MethodName) ({ cls := "java/lang/Enum", name := "compareTo", desc := "(Ljava/lang/Enum;)I" } : Jvm.MethodName)) ∈ lw_all := lw_g (lw_at lw_m5 205 rfl) rfl
theorem q1287 : (Jvm.Cond.selects "RingDomino$Sign$1" ({ cls := "java/lang/Enum", name := "getDeclaringClass", desc := "()Ljava/lang/Class;" } : Jvm.MethodName) ({ cls := "java/lang/Enum", name := "getDeclaringClass", desc := "()Ljava/lang/Class;" } : Jvm.MethodName)) ∈ lw_all := lw_g (lw_at lw_m5 228 rfl) rfl
theorem q1311 : (Jvm.Cond.castable "RingDomino$Sign$1" "java/lang/Comparable") ∈ lw_tbl := lw_at lw_m6 12 rfl
theorem q1312 : (Jvm.Cond.selects "RingDomino$Sign$1" ({ cls := "java/lang/Comparable", name := "compareTo", desc := "(Ljava/lang/Object;)I" } : Jvm.MethodName) ({ cls := "java/lang/Enum", name := "compareTo", desc := "(Ljava/lang/Object;)I" } : Jvm.MethodName)) ∈ lw_all := lw_g (lw_at lw_m6 13 rfl) rfl
theorem q1313 : (Jvm.Cond.unhidden "RingDomino$Sign$1" "compareTo" "(Ljava/lang/Object;)I") ∈ lw_tbl := lw_at lw_m6 14 rfl
theorem q2237 : (Jvm.Cond.selects "RingDomino$Sign$1" ({ cls := "RingDomino$Sign", name := "join", desc := "(II)I" } : Jvm.MethodName) ({ cls := "RingDomino$Sign$1", name := "join", desc := "(II)I" } : Jvm.MethodName)) ∈ lw_all := lw_g (lw_at lw_m9 218 rfl) rfl
theorem q2238 : (Jvm.Cond.instanceMethod ({ cls := "RingDomino$Sign$1", name := "join", desc := "(II)I" } : Jvm.MethodName)) ∈ lw_all := lw_g (lw_at lw_m9 219 rfl) rfl
theorem q2239 : (Jvm.Cond.code ({ cls := "RingDomino$Sign$1", name := "join", desc := "(II)I" } : Jvm.MethodName) prog_21_method_2_code (3 : Nat) (Option.some Jvm.ClassFile.FieldType.int)) ∈ lw_all := lw_g (lw_at lw_m9 220 rfl) rfl
theorem q3384 : (Jvm.Cond.castable "RingDomino$Sign$1" "java/lang/Enum") ∈ lw_tbl := lw_at lw_m14 165 rfl
theorem q3442 : (Jvm.Cond.castable "RingDomino$Sign$1" "java/lang/Object") ∈ lw_tbl := lw_at lw_m14 223 rfl

/-! RingDomino$Sign$2 -/
def RX31 : String := "RingDomino$Sign$2"
abbrev cX31_join : ByteArray := prog_22_method_2_code
def yX31_join : MethodName := ⟨RX31, "join", "(II)I"⟩
def dkwX31_join_0 : List UInt8 := [27, 28, 100, 172]
abbrev dktX31_join_0 : List UInt8 := dkwX31_join_0 ++ []
theorem dksX31_join_0 : cX31_join.data.toList.drop 0 = dktX31_join_0 := by decide +kernel
theorem dX31_join_0 : decode cX31_join 0 = .ok (.iload_n 1, 1) := dk_27 (dk_at dksX31_join_0 0 rfl rfl)
theorem dX31_join_1 : decode cX31_join 1 = .ok (.iload_n 2, 1) := dk_28 (dk_at dksX31_join_0 1 rfl rfl)
theorem dX31_join_2 : decode cX31_join 2 = .ok (.isub, 1) := dk_100 (dk_at dksX31_join_0 2 rfl rfl)
theorem dX31_join_3 : decode cX31_join 3 = .ok (.ireturn, 1) := dk_172 (dk_at dksX31_join_0 3 rfl rfl)
theorem q804 : (Jvm.Cond.selects "RingDomino$Sign$2" ({ cls := "java/lang/Object", name := "getClass", desc := "()Ljava/lang/Class;" } : Jvm.MethodName) ({ cls := "java/lang/Object", name := "getClass", desc := "()Ljava/lang/Class;" } : Jvm.MethodName)) ∈ lw_all := lw_g (lw_at lw_m3 225 rfl) rfl
theorem q1067 : (Jvm.Cond.selects "RingDomino$Sign$2" ({ cls := "java/lang/Object", name := "hashCode", desc := "()I" } : Jvm.MethodName) ({ cls := "java/lang/Enum", name := "hashCode", desc := "()I" } : Jvm.MethodName)) ∈ lw_all := lw_g (lw_at lw_m5 8 rfl) rfl
theorem q1184 : (Jvm.Cond.selects "RingDomino$Sign$2" ({ cls := "java/lang/Object", name := "equals", desc := "(Ljava/lang/Object;)Z" } : Jvm.MethodName) ({ cls := "java/lang/Enum", name := "equals", desc := "(Ljava/lang/Object;)Z" } : Jvm.MethodName)) ∈ lw_all := lw_g (lw_at lw_m5 125 rfl) rfl
theorem q1265 : (Jvm.Cond.selects "RingDomino$Sign$2" ({ cls := "java/lang/Enum", name := "compareTo", desc := "(Ljava/lang/Enum;)I" } : Jvm.MethodName) ({ cls := "java/lang/Enum", name := "compareTo", desc := "(Ljava/lang/Enum;)I" } : Jvm.MethodName)) ∈ lw_all := lw_g (lw_at lw_m5 206 rfl) rfl
theorem q1288 : (Jvm.Cond.selects "RingDomino$Sign$2" ({ cls := "java/lang/Enum", name := "getDeclaringClass", desc := "()Ljava/lang/Class;" } : Jvm.MethodName) ({ cls := "java/lang/Enum", name := "getDeclaringClass", desc := "()Ljava/lang/Class;" } : Jvm.MethodName)) ∈ lw_all := lw_g (lw_at lw_m5 229 rfl) rfl
theorem q1314 : (Jvm.Cond.castable "RingDomino$Sign$2" "java/lang/Comparable") ∈ lw_tbl := lw_at lw_m6 15 rfl
theorem q1315 : (Jvm.Cond.selects "RingDomino$Sign$2" ({ cls := "java/lang/Comparable", name := "compareTo", desc := "(Ljava/lang/Object;)I" } : Jvm.MethodName) ({ cls := "java/lang/Enum", name := "compareTo", desc := "(Ljava/lang/Object;)I" } : Jvm.MethodName)) ∈ lw_all := lw_g (lw_at lw_m6 16 rfl) rfl
theorem q1316 : (Jvm.Cond.unhidden "RingDomino$Sign$2" "compareTo" "(Ljava/lang/Object;)I") ∈ lw_tbl := lw_at lw_m6 17 rfl
theorem q2240 : (Jvm.Cond.selects "RingDomino$Sign$2" ({ cls := "RingDomino$Sign", name := "join", desc := "(II)I" } : Jvm.MethodName) ({ cls := "RingDomino$Sign$2", name := "join", desc := "(II)I" } : Jvm.MethodName)) ∈ lw_all := lw_g (lw_at lw_m9 221 rfl) rfl
theorem q2241 : (Jvm.Cond.instanceMethod ({ cls := "RingDomino$Sign$2", name := "join", desc := "(II)I" } : Jvm.MethodName)) ∈ lw_all := lw_g (lw_at lw_m9 222 rfl) rfl
theorem q2242 : (Jvm.Cond.code ({ cls := "RingDomino$Sign$2", name := "join", desc := "(II)I" } : Jvm.MethodName) prog_22_method_2_code (3 : Nat) (Option.some Jvm.ClassFile.FieldType.int)) ∈ lw_all := lw_g (lw_at lw_m9 223 rfl) rfl
theorem q3385 : (Jvm.Cond.castable "RingDomino$Sign$2" "java/lang/Enum") ∈ lw_tbl := lw_at lw_m14 166 rfl
theorem q3443 : (Jvm.Cond.castable "RingDomino$Sign$2" "java/lang/Object") ∈ lw_tbl := lw_at lw_m14 224 rfl

/-! RingDomino$Sign$3 -/
def RX32 : String := "RingDomino$Sign$3"
abbrev cX32_join : ByteArray := prog_23_method_2_code
def yX32_join : MethodName := ⟨RX32, "join", "(II)I"⟩
def dkwX32_join_0 : List UInt8 := [27, 28, 104, 172]
abbrev dktX32_join_0 : List UInt8 := dkwX32_join_0 ++ []
theorem dksX32_join_0 : cX32_join.data.toList.drop 0 = dktX32_join_0 := by decide +kernel
theorem dX32_join_0 : decode cX32_join 0 = .ok (.iload_n 1, 1) := dk_27 (dk_at dksX32_join_0 0 rfl rfl)
theorem dX32_join_1 : decode cX32_join 1 = .ok (.iload_n 2, 1) := dk_28 (dk_at dksX32_join_0 1 rfl rfl)
theorem dX32_join_2 : decode cX32_join 2 = .ok (.imul, 1) := dk_104 (dk_at dksX32_join_0 2 rfl rfl)
theorem dX32_join_3 : decode cX32_join 3 = .ok (.ireturn, 1) := dk_172 (dk_at dksX32_join_0 3 rfl rfl)
theorem q805 : (Jvm.Cond.selects "RingDomino$Sign$3" ({ cls := "java/lang/Object", name := "getClass", desc := "()Ljava/lang/Class;" } : Jvm.MethodName) ({ cls := "java/lang/Object", name := "getClass", desc := "()Ljava/lang/Class;" } : Jvm.MethodName)) ∈ lw_all := lw_g (lw_at lw_m3 226 rfl) rfl
theorem q1068 : (Jvm.Cond.selects "RingDomino$Sign$3" ({ cls := "java/lang/Object", name := "hashCode", desc := "()I" } : Jvm.MethodName) ({ cls := "java/lang/Enum", name := "hashCode", desc := "()I" } : Jvm.MethodName)) ∈ lw_all := lw_g (lw_at lw_m5 9 rfl) rfl
theorem q1185 : (Jvm.Cond.selects "RingDomino$Sign$3" ({ cls := "java/lang/Object", name := "equals", desc := "(Ljava/lang/Object;)Z" } : Jvm.MethodName) ({ cls := "java/lang/Enum", name := "equals", desc := "(Ljava/lang/Object;)Z" } : Jvm.MethodName)) ∈ lw_all := lw_g (lw_at lw_m5 126 rfl) rfl
theorem q1266 : (Jvm.Cond.selects "RingDomino$Sign$3" ({ cls := "java/lang/Enum", name := "compareTo", desc := "(Ljava/lang/Enum;)I" } : Jvm.MethodName) ({ cls := "java/lang/Enum", name := "compareTo", desc := "(Ljava/lang/Enum;)I" } : Jvm.MethodName)) ∈ lw_all := lw_g (lw_at lw_m5 207 rfl) rfl
theorem q1289 : (Jvm.Cond.selects "RingDomino$Sign$3" ({ cls := "java/lang/Enum", name := "getDeclaringClass", desc := "()Ljava/lang/Class;" } : Jvm.MethodName) ({ cls := "java/lang/Enum", name := "getDeclaringClass", desc := "()Ljava/lang/Class;" } : Jvm.MethodName)) ∈ lw_all := lw_g (lw_at lw_m5 230 rfl) rfl
theorem q1317 : (Jvm.Cond.castable "RingDomino$Sign$3" "java/lang/Comparable") ∈ lw_tbl := lw_at lw_m6 18 rfl
theorem q1318 : (Jvm.Cond.selects "RingDomino$Sign$3" ({ cls := "java/lang/Comparable", name := "compareTo", desc := "(Ljava/lang/Object;)I" } : Jvm.MethodName) ({ cls := "java/lang/Enum", name := "compareTo", desc := "(Ljava/lang/Object;)I" } : Jvm.MethodName)) ∈ lw_all := lw_g (lw_at lw_m6 19 rfl) rfl
theorem q1319 : (Jvm.Cond.unhidden "RingDomino$Sign$3" "compareTo" "(Ljava/lang/Object;)I") ∈ lw_tbl := lw_at lw_m6 20 rfl
theorem q2243 : (Jvm.Cond.selects "RingDomino$Sign$3" ({ cls := "RingDomino$Sign", name := "join", desc := "(II)I" } : Jvm.MethodName) ({ cls := "RingDomino$Sign$3", name := "join", desc := "(II)I" } : Jvm.MethodName)) ∈ lw_all := lw_g (lw_at lw_m9 224 rfl) rfl
theorem q2244 : (Jvm.Cond.instanceMethod ({ cls := "RingDomino$Sign$3", name := "join", desc := "(II)I" } : Jvm.MethodName)) ∈ lw_all := lw_g (lw_at lw_m9 225 rfl) rfl
theorem q2245 : (Jvm.Cond.code ({ cls := "RingDomino$Sign$3", name := "join", desc := "(II)I" } : Jvm.MethodName) prog_23_method_2_code (3 : Nat) (Option.some Jvm.ClassFile.FieldType.int)) ∈ lw_all := lw_g (lw_at lw_m9 226 rfl) rfl
theorem q3386 : (Jvm.Cond.castable "RingDomino$Sign$3" "java/lang/Enum") ∈ lw_tbl := lw_at lw_m14 167 rfl
theorem q3440 : (Jvm.Cond.castable "RingDomino$Sign$3" "java/lang/Object") ∈ lw_tbl := lw_at lw_m14 221 rfl

/-! RingDomino$Sign$4 -/
def RX33 : String := "RingDomino$Sign$4"
abbrev cX33_join : ByteArray := prog_24_method_2_code
def yX33_join : MethodName := ⟨RX33, "join", "(II)I"⟩
def dkwX33_join_0 : List UInt8 := [28, 154, 0, 7, 3, 167, 0, 6, 27, 28, 108, 172]
abbrev dktX33_join_0 : List UInt8 := dkwX33_join_0 ++ []
theorem dksX33_join_0 : cX33_join.data.toList.drop 0 = dktX33_join_0 := by decide +kernel
theorem dX33_join_0 : decode cX33_join 0 = .ok (.iload_n 2, 1) := dk_28 (dk_at dksX33_join_0 0 rfl rfl)
theorem dX33_join_1 : decode cX33_join 1 = .ok (.ifCond .ne 7, 3) := dk_154 0 7 (dk_at dksX33_join_0 1 rfl rfl)
theorem dX33_join_4 : decode cX33_join 4 = .ok (.iconst 0, 1) := dk_3 (dk_at dksX33_join_0 4 rfl rfl)
theorem dX33_join_5 : decode cX33_join 5 = .ok (.goto 6, 3) := dk_167 0 6 (dk_at dksX33_join_0 5 rfl rfl)
theorem dX33_join_8 : decode cX33_join 8 = .ok (.iload_n 1, 1) := dk_27 (dk_at dksX33_join_0 8 rfl rfl)
theorem dX33_join_9 : decode cX33_join 9 = .ok (.iload_n 2, 1) := dk_28 (dk_at dksX33_join_0 9 rfl rfl)
theorem dX33_join_10 : decode cX33_join 10 = .ok (.idiv, 1) := dk_108 (dk_at dksX33_join_0 10 rfl rfl)
theorem dX33_join_11 : decode cX33_join 11 = .ok (.ireturn, 1) := dk_172 (dk_at dksX33_join_0 11 rfl rfl)
theorem q806 : (Jvm.Cond.selects "RingDomino$Sign$4" ({ cls := "java/lang/Object", name := "getClass", desc := "()Ljava/lang/Class;" } : Jvm.MethodName) ({ cls := "java/lang/Object", name := "getClass", desc := "()Ljava/lang/Class;" } : Jvm.MethodName)) ∈ lw_all := lw_g (lw_at lw_m3 227 rfl) rfl
theorem q1069 : (Jvm.Cond.selects "RingDomino$Sign$4" ({ cls := "java/lang/Object", name := "hashCode", desc := "()I" } : Jvm.MethodName) ({ cls := "java/lang/Enum", name := "hashCode", desc := "()I" } : Jvm.MethodName)) ∈ lw_all := lw_g (lw_at lw_m5 10 rfl) rfl
theorem q1186 : (Jvm.Cond.selects "RingDomino$Sign$4" ({ cls := "java/lang/Object", name := "equals", desc := "(Ljava/lang/Object;)Z" } : Jvm.MethodName) ({ cls := "java/lang/Enum", name := "equals", desc := "(Ljava/lang/Object;)Z" } : Jvm.MethodName)) ∈ lw_all := lw_g (lw_at lw_m5 127 rfl) rfl
theorem q1267 : (Jvm.Cond.selects "RingDomino$Sign$4" ({ cls := "java/lang/Enum", name := "compareTo", desc := "(Ljava/lang/Enum;)I" } : Jvm.MethodName) ({ cls := "java/lang/Enum", name := "compareTo", desc := "(Ljava/lang/Enum;)I" } : Jvm.MethodName)) ∈ lw_all := lw_g (lw_at lw_m5 208 rfl) rfl
theorem q1290 : (Jvm.Cond.selects "RingDomino$Sign$4" ({ cls := "java/lang/Enum", name := "getDeclaringClass", desc := "()Ljava/lang/Class;" } : Jvm.MethodName) ({ cls := "java/lang/Enum", name := "getDeclaringClass", desc := "()Ljava/lang/Class;" } : Jvm.MethodName)) ∈ lw_all := lw_g (lw_at lw_m5 231 rfl) rfl
theorem q1320 : (Jvm.Cond.castable "RingDomino$Sign$4" "java/lang/Comparable") ∈ lw_tbl := lw_at lw_m6 21 rfl
theorem q1321 : (Jvm.Cond.selects "RingDomino$Sign$4" ({ cls := "java/lang/Comparable", name := "compareTo", desc := "(Ljava/lang/Object;)I" } : Jvm.MethodName) ({ cls := "java/lang/Enum", name := "compareTo", desc := "(Ljava/lang/Object;)I" } : Jvm.MethodName)) ∈ lw_all := lw_g (lw_at lw_m6 22 rfl) rfl
theorem q1322 : (Jvm.Cond.unhidden "RingDomino$Sign$4" "compareTo" "(Ljava/lang/Object;)I") ∈ lw_tbl := lw_at lw_m6 23 rfl
theorem q2246 : (Jvm.Cond.selects "RingDomino$Sign$4" ({ cls := "RingDomino$Sign", name := "join", desc := "(II)I" } : Jvm.MethodName) ({ cls := "RingDomino$Sign$4", name := "join", desc := "(II)I" } : Jvm.MethodName)) ∈ lw_all := lw_g (lw_at lw_m9 227 rfl) rfl
theorem q2247 : (Jvm.Cond.instanceMethod ({ cls := "RingDomino$Sign$4", name := "join", desc := "(II)I" } : Jvm.MethodName)) ∈ lw_all := lw_g (lw_at lw_m9 228 rfl) rfl
theorem q2248 : (Jvm.Cond.code ({ cls := "RingDomino$Sign$4", name := "join", desc := "(II)I" } : Jvm.MethodName) prog_24_method_2_code (3 : Nat) (Option.some Jvm.ClassFile.FieldType.int)) ∈ lw_all := lw_g (lw_at lw_m9 229 rfl) rfl
theorem q3387 : (Jvm.Cond.castable "RingDomino$Sign$4" "java/lang/Enum") ∈ lw_tbl := lw_at lw_m14 168 rfl
theorem q3441 : (Jvm.Cond.castable "RingDomino$Sign$4" "java/lang/Object") ∈ lw_tbl := lw_at lw_m14 222 rfl

/-! RingDomino$Sign$5 -/
def RX34 : String := "RingDomino$Sign$5"
abbrev cX34_join : ByteArray := prog_25_method_2_code
def yX34_join : MethodName := ⟨RX34, "join", "(II)I"⟩
def dkwX34_join_0 : List UInt8 := [27, 28, 184, 0, 7, 172]
abbrev dktX34_join_0 : List UInt8 := dkwX34_join_0 ++ []
theorem dksX34_join_0 : cX34_join.data.toList.drop 0 = dktX34_join_0 := by decide +kernel
theorem dX34_join_0 : decode cX34_join 0 = .ok (.iload_n 1, 1) := dk_27 (dk_at dksX34_join_0 0 rfl rfl)
theorem dX34_join_1 : decode cX34_join 1 = .ok (.iload_n 2, 1) := dk_28 (dk_at dksX34_join_0 1 rfl rfl)
theorem dX34_join_2 : decode cX34_join 2 = .ok (.invokestatic 7, 3) := dk_184 0 7 (dk_at dksX34_join_0 2 rfl rfl)
theorem dX34_join_5 : decode cX34_join 5 = .ok (.ireturn, 1) := dk_172 (dk_at dksX34_join_0 5 rfl rfl)
theorem q807 : (Jvm.Cond.selects "RingDomino$Sign$5" ({ cls := "java/lang/Object", name := "getClass", desc := "()Ljava/lang/Class;" } : Jvm.MethodName) ({ cls := "java/lang/Object", name := "getClass", desc := "()Ljava/lang/Class;" } : Jvm.MethodName)) ∈ lw_all := lw_g (lw_at lw_m3 228 rfl) rfl
theorem q1070 : (Jvm.Cond.selects "RingDomino$Sign$5" ({ cls := "java/lang/Object", name := "hashCode", desc := "()I" } : Jvm.MethodName) ({ cls := "java/lang/Enum", name := "hashCode", desc := "()I" } : Jvm.MethodName)) ∈ lw_all := lw_g (lw_at lw_m5 11 rfl) rfl
theorem q1187 : (Jvm.Cond.selects "RingDomino$Sign$5" ({ cls := "java/lang/Object", name := "equals", desc := "(Ljava/lang/Object;)Z" } : Jvm.MethodName) ({ cls := "java/lang/Enum", name := "equals", desc := "(Ljava/lang/Object;)Z" } : Jvm.MethodName)) ∈ lw_all := lw_g (lw_at lw_m5 128 rfl) rfl
theorem q1268 : (Jvm.Cond.selects "RingDomino$Sign$5" ({ cls := "java/lang/Enum", name := "compareTo", desc := "(Ljava/lang/Enum;)I" } : Jvm.MethodName) ({ cls := "java/lang/Enum", name := "compareTo", desc := "(Ljava/lang/Enum;)I" } : Jvm.MethodName)) ∈ lw_all := lw_g (lw_at lw_m5 209 rfl) rfl
theorem q1291 : (Jvm.Cond.selects "RingDomino$Sign$5" ({ cls := "java/lang/Enum", name := "getDeclaringClass", desc := "()Ljava/lang/Class;" } : Jvm.MethodName) ({ cls := "java/lang/Enum", name := "getDeclaringClass", desc := "()Ljava/lang/Class;" } : Jvm.MethodName)) ∈ lw_all := lw_g (lw_at lw_m5 232 rfl) rfl
theorem q1323 : (Jvm.Cond.castable "RingDomino$Sign$5" "java/lang/Comparable") ∈ lw_tbl := lw_at lw_m6 24 rfl
theorem q1324 : (Jvm.Cond.selects "RingDomino$Sign$5" ({ cls := "java/lang/Comparable", name := "compareTo", desc := "(Ljava/lang/Object;)I" } : Jvm.MethodName) ({ cls := "java/lang/Enum", name := "compareTo", desc := "(Ljava/lang/Object;)I" } : Jvm.MethodName)) ∈ lw_all := lw_g (lw_at lw_m6 25 rfl) rfl
theorem q1325 : (Jvm.Cond.unhidden "RingDomino$Sign$5" "compareTo" "(Ljava/lang/Object;)I") ∈ lw_tbl := lw_at lw_m6 26 rfl
theorem q2249 : (Jvm.Cond.selects "RingDomino$Sign$5" ({ cls := "RingDomino$Sign", name := "join", desc := "(II)I" } : Jvm.MethodName) ({ cls := "RingDomino$Sign$5", name := "join", desc := "(II)I" } : Jvm.MethodName)) ∈ lw_all := lw_g (lw_at lw_m9 230 rfl) rfl
theorem q2250 : (Jvm.Cond.instanceMethod ({ cls := "RingDomino$Sign$5", name := "join", desc := "(II)I" } : Jvm.MethodName)) ∈ lw_all := lw_g (lw_at lw_m9 231 rfl) rfl
theorem q2251 : (Jvm.Cond.code ({ cls := "RingDomino$Sign$5", name := "join", desc := "(II)I" } : Jvm.MethodName) prog_25_method_2_code (3 : Nat) (Option.some Jvm.ClassFile.FieldType.int)) ∈ lw_all := lw_g (lw_at lw_m9 232 rfl) rfl
theorem q2252 : (Jvm.Cond.methodLink "RingDomino$Sign$5" (7 : Nat) ({ cls := "java/lang/Math", name := "min", desc := "(II)I" } : Jvm.MethodName)) ∈ lw_all := lw_g (lw_at lw_m9 233 rfl) rfl
theorem q3388 : (Jvm.Cond.castable "RingDomino$Sign$5" "java/lang/Enum") ∈ lw_tbl := lw_at lw_m14 169 rfl
theorem q3437 : (Jvm.Cond.castable "RingDomino$Sign$5" "java/lang/Object") ∈ lw_tbl := lw_at lw_m14 218 rfl

/-! RingDomino$Sign$6 -/
def RX35 : String := "RingDomino$Sign$6"
abbrev cX35_join : ByteArray := prog_26_method_2_code
def yX35_join : MethodName := ⟨RX35, "join", "(II)I"⟩
def dkwX35_join_0 : List UInt8 := [27, 28, 184, 0, 7, 172]
abbrev dktX35_join_0 : List UInt8 := dkwX35_join_0 ++ []
theorem dksX35_join_0 : cX35_join.data.toList.drop 0 = dktX35_join_0 := by decide +kernel
theorem dX35_join_0 : decode cX35_join 0 = .ok (.iload_n 1, 1) := dk_27 (dk_at dksX35_join_0 0 rfl rfl)
theorem dX35_join_1 : decode cX35_join 1 = .ok (.iload_n 2, 1) := dk_28 (dk_at dksX35_join_0 1 rfl rfl)
theorem dX35_join_2 : decode cX35_join 2 = .ok (.invokestatic 7, 3) := dk_184 0 7 (dk_at dksX35_join_0 2 rfl rfl)
theorem dX35_join_5 : decode cX35_join 5 = .ok (.ireturn, 1) := dk_172 (dk_at dksX35_join_0 5 rfl rfl)
theorem q808 : (Jvm.Cond.selects "RingDomino$Sign$6" ({ cls := "java/lang/Object", name := "getClass", desc := "()Ljava/lang/Class;" } : Jvm.MethodName) ({ cls := "java/lang/Object", name := "getClass", desc := "()Ljava/lang/Class;" } : Jvm.MethodName)) ∈ lw_all := lw_g (lw_at lw_m3 229 rfl) rfl
theorem q1071 : (Jvm.Cond.selects "RingDomino$Sign$6" ({ cls := "java/lang/Object", name := "hashCode", desc := "()I" } : Jvm.MethodName) ({ cls := "java/lang/Enum", name := "hashCode", desc := "()I" } : Jvm.MethodName)) ∈ lw_all := lw_g (lw_at lw_m5 12 rfl) rfl
theorem q1188 : (Jvm.Cond.selects "RingDomino$Sign$6" ({ cls := "java/lang/Object", name := "equals", desc := "(Ljava/lang/Object;)Z" } : Jvm.MethodName) ({ cls := "java/lang/Enum", name := "equals", desc := "(Ljava/lang/Object;)Z" } : Jvm.MethodName)) ∈ lw_all := lw_g (lw_at lw_m5 129 rfl) rfl
theorem q1269 : (Jvm.Cond.selects "RingDomino$Sign$6" ({ cls := "java/lang/Enum", name := "compareTo", desc := "(Ljava/lang/Enum;)I" } : Jvm.MethodName) ({ cls := "java/lang/Enum", name := "compareTo", desc := "(Ljava/lang/Enum;)I" } : Jvm.MethodName)) ∈ lw_all := lw_g (lw_at lw_m5 210 rfl) rfl
theorem q1292 : (Jvm.Cond.selects "RingDomino$Sign$6" ({ cls := "java/lang/Enum", name := "getDeclaringClass", desc := "()Ljava/lang/Class;" } : Jvm.MethodName) ({ cls := "java/lang/Enum", name := "getDeclaringClass", desc := "()Ljava/lang/Class;" } : Jvm.MethodName)) ∈ lw_all := lw_g (lw_at lw_m5 233 rfl) rfl
theorem q1326 : (Jvm.Cond.castable "RingDomino$Sign$6" "java/lang/Comparable") ∈ lw_tbl := lw_at lw_m6 27 rfl
theorem q1327 : (Jvm.Cond.selects "RingDomino$Sign$6" ({ cls := "java/lang/Comparable", name := "compareTo", desc := "(Ljava/lang/Object;)I" } : Jvm.MethodName) ({ cls := "java/lang/Enum", name := "compareTo", desc := "(Ljava/lang/Object;)I" } : Jvm.MethodName)) ∈ lw_all := lw_g (lw_at lw_m6 28 rfl) rfl
theorem q1328 : (Jvm.Cond.unhidden "RingDomino$Sign$6" "compareTo" "(Ljava/lang/Object;)I") ∈ lw_tbl := lw_at lw_m6 29 rfl
theorem q2253 : (Jvm.Cond.selects "RingDomino$Sign$6" ({ cls := "RingDomino$Sign", name := "join", desc := "(II)I" } : Jvm.MethodName) ({ cls := "RingDomino$Sign$6", name := "join", desc := "(II)I" } : Jvm.MethodName)) ∈ lw_all := lw_g (lw_at lw_m9 234 rfl) rfl
theorem q2254 : (Jvm.Cond.instanceMethod ({ cls := "RingDomino$Sign$6", name := "join", desc := "(II)I" } : Jvm.MethodName)) ∈ lw_all := lw_g (lw_at lw_m9 235 rfl) rfl
theorem q2255 : (Jvm.Cond.code ({ cls := "RingDomino$Sign$6", name := "join", desc := "(II)I" } : Jvm.MethodName) prog_26_method_2_code (3 : Nat) (Option.some Jvm.ClassFile.FieldType.int)) ∈ lw_all := lw_g (lw_at lw_m9 236 rfl) rfl
theorem q2256 : (Jvm.Cond.methodLink "RingDomino$Sign$6" (7 : Nat) ({ cls := "java/lang/Math", name := "max", desc := "(II)I" } : Jvm.MethodName)) ∈ lw_all := lw_g (lw_at lw_m9 237 rfl) rfl
theorem q3389 : (Jvm.Cond.castable "RingDomino$Sign$6" "java/lang/Enum") ∈ lw_tbl := lw_at lw_m14 170 rfl
theorem q3438 : (Jvm.Cond.castable "RingDomino$Sign$6" "java/lang/Object") ∈ lw_tbl := lw_at lw_m14 219 rfl

/-! RingDomino$What$2 -/
def RX36 : String := "RingDomino$What$2"
abbrev cX36_of : ByteArray := prog_38_method_2_code
def yX36_of : MethodName := ⟨RX36, "of", "(LRingDomino$Game;I)I"⟩
theorem dX36_of_0 : decode cX36_of 0 = .ok (.aload_n 1, 1) := by decide +kernel
theorem dX36_of_1 : decode cX36_of 1 = .ok (.invokevirtual 7, 3) := by decide +kernel
theorem dX36_of_4 : decode cX36_of 4 = .ok (.ireturn, 1) := by decide +kernel
theorem q817 : (Jvm.Cond.selects "RingDomino$What$2" ({ cls := "java/lang/Object", name := "getClass", desc := "()Ljava/lang/Class;" } : Jvm.MethodName) ({ cls := "java/lang/Object", name := "getClass", desc := "()Ljava/lang/Class;" } : Jvm.MethodName)) ∈ lw_all := lw_g (lw_at lw_m3 238 rfl) rfl
theorem q1080 : (Jvm.Cond.selects "RingDomino$What$2" ({ cls := "java/lang/Object", name := "hashCode", desc := "()I" } : Jvm.MethodName) ({ cls := "java/lang/Enum", name := "hashCode", desc := "()I" } : Jvm.MethodName)) ∈ lw_all := lw_g (lw_at lw_m5 21 rfl) rfl
theorem q1197 : (Jvm.Cond.selects "RingDomino$What$2" ({ cls := "java/lang/Object", name := "equals", desc := "(Ljava/lang/Object;)Z" } : Jvm.MethodName) ({ cls := "java/lang/Enum", name := "equals", desc := "(Ljava/lang/Object;)Z" } : Jvm.MethodName)) ∈ lw_all := lw_g (lw_at lw_m5 138 rfl) rfl
theorem q1272 : (Jvm.Cond.selects "RingDomino$What$2" ({ cls := "java/lang/Enum", name := "compareTo", desc := "(Ljava/lang/Enum;)I" } : Jvm.MethodName) ({ cls := "java/lang/Enum", name := "compareTo", desc := "(Ljava/lang/Enum;)I" } : Jvm.MethodName)) ∈ lw_all := lw_g (lw_at lw_m5 213 rfl) rfl
theorem q1295 : (Jvm.Cond.selects "RingDomino$What$2" ({ cls := "java/lang/Enum", name := "getDeclaringClass", desc := "()Ljava/lang/Class;" } : Jvm.MethodName) ({ cls := "java/lang/Enum", name := "getDeclaringClass", desc := "()Ljava/lang/Class;" } : Jvm.MethodName)) ∈ lw_all := lw_g (lw_at lw_m5 236 rfl) rfl
theorem q1335 : (Jvm.Cond.castable "RingDomino$What$2" "java/lang/Comparable") ∈ lw_tbl := lw_at lw_m6 36 rfl
theorem q1336 : (Jvm.Cond.selects "RingDomino$What$2" ({ cls := "java/lang/Comparable", name := "compareTo", desc := "(Ljava/lang/Object;)I" } : Jvm.MethodName) ({ cls := "java/lang/Enum", name := "compareTo", desc := "(Ljava/lang/Object;)I" } : Jvm.MethodName)) ∈ lw_all := lw_g (lw_at lw_m6 37 rfl) rfl
theorem q1337 : (Jvm.Cond.unhidden "RingDomino$What$2" "compareTo" "(Ljava/lang/Object;)I") ∈ lw_tbl := lw_at lw_m6 38 rfl
theorem q2184 : (Jvm.Cond.selects "RingDomino$What$2" ({ cls := "RingDomino$What", name := "of", desc := "(LRingDomino$Game;I)I" } : Jvm.MethodName) ({ cls := "RingDomino$What$2", name := "of", desc := "(LRingDomino$Game;I)I" } : Jvm.MethodName)) ∈ lw_all := lw_g (lw_at lw_m9 165 rfl) rfl
theorem q2185 : (Jvm.Cond.instanceMethod ({ cls := "RingDomino$What$2", name := "of", desc := "(LRingDomino$Game;I)I" } : Jvm.MethodName)) ∈ lw_all := lw_g (lw_at lw_m9 166 rfl) rfl
theorem q2186 : (Jvm.Cond.code ({ cls := "RingDomino$What$2", name := "of", desc := "(LRingDomino$Game;I)I" } : Jvm.MethodName) prog_38_method_2_code (3 : Nat) (Option.some Jvm.ClassFile.FieldType.int)) ∈ lw_all := lw_g (lw_at lw_m9 167 rfl) rfl
theorem q2187 : (Jvm.Cond.methodLink "RingDomino$What$2" (7 : Nat) ({ cls := "RingDomino$Game", name := "placed", desc := "()I" } : Jvm.MethodName)) ∈ lw_all := lw_g (lw_at lw_m9 168 rfl) rfl
theorem q3392 : (Jvm.Cond.castable "RingDomino$What$2" "java/lang/Enum") ∈ lw_tbl := lw_at lw_m14 173 rfl
theorem q3428 : (Jvm.Cond.castable "RingDomino$What$2" "java/lang/Object") ∈ lw_tbl := lw_at lw_m14 209 rfl

/-! RingDomino$What$3 -/
def RX37 : String := "RingDomino$What$3"
abbrev cX37_of : ByteArray := prog_39_method_2_code
def yX37_of : MethodName := ⟨RX37, "of", "(LRingDomino$Game;I)I"⟩
theorem dX37_of_0 : decode cX37_of 0 = .ok (.aload_n 1, 1) := by decide +kernel
theorem dX37_of_1 : decode cX37_of 1 = .ok (.invokevirtual 7, 3) := by decide +kernel
theorem dX37_of_4 : decode cX37_of 4 = .ok (.ireturn, 1) := by decide +kernel
theorem q818 : (Jvm.Cond.selects "RingDomino$What$3" ({ cls := "java/lang/Object", name := "getClass", desc := "()Ljava/lang/Class;" } : Jvm.MethodName) ({ cls := "java/lang/Object", name := "getClass", desc := "()Ljava/lang/Class;" } : Jvm.MethodName)) ∈ lw_all := lw_g (lw_at lw_m3 239 rfl) rfl
theorem q1081 : (Jvm.Cond.selects "RingDomino$What$3" ({ cls := "java/lang/Object", name := "hashCode", desc := "()I" } : Jvm.MethodName) ({ cls := "java/lang/Enum", name := "hashCode", desc := "()I" } : Jvm.MethodName)) ∈ lw_all := lw_g (lw_at lw_m5 22 rfl) rfl
theorem q1198 : (Jvm.Cond.selects "RingDomino$What$3" ({ cls := "java/lang/Object", name := "equals", desc := "(Ljava/lang/Object;)Z" } : Jvm.MethodName) ({ cls := "java/lang/Enum", name := "equals", desc := "(Ljava/lang/Object;)Z" } : Jvm.MethodName)) ∈ lw_all := lw_g (lw_at lw_m5 139 rfl) rfl
theorem q1273 : (Jvm.Cond.selects "RingDomino$What$3" ({ cls := "java/lang/Enum", name := "compareTo", desc := "(Ljava/lang/Enum;)I" } : Jvm.MethodName) ({ cls := "java/lang/Enum", name := "compareTo", desc := "(Ljava/lang/Enum;)I" } : Jvm.MethodName)) ∈ lw_all := lw_g (lw_at lw_m5 214 rfl) rfl
theorem q1296 : (Jvm.Cond.selects "RingDomino$What$3" ({ cls := "java/lang/Enum", name := "getDeclaringClass", desc := "()Ljava/lang/Class;" } : Jvm.MethodName) ({ cls := "java/lang/Enum", name := "getDeclaringClass", desc := "()Ljava/lang/Class;" } : Jvm.MethodName)) ∈ lw_all := lw_g (lw_at lw_m5 237 rfl) rfl
theorem q1338 : (Jvm.Cond.castable "RingDomino$What$3" "java/lang/Comparable") ∈ lw_tbl := lw_at lw_m6 39 rfl
theorem q1339 : (Jvm.Cond.selects "RingDomino$What$3" ({ cls := "java/lang/Comparable", name := "compareTo", desc := "(Ljava/lang/Object;)I" } : Jvm.MethodName) ({ cls := "java/lang/Enum", name := "compareTo", desc := "(Ljava/lang/Object;)I" } : Jvm.MethodName)) ∈ lw_all := lw_g (lw_at lw_m6 40 rfl) rfl
theorem q1340 : (Jvm.Cond.unhidden "RingDomino$What$3" "compareTo" "(Ljava/lang/Object;)I") ∈ lw_tbl := lw_at lw_m6 41 rfl
theorem q2188 : (Jvm.Cond.selects "RingDomino$What$3" ({ cls := "RingDomino$What", name := "of", desc := "(LRingDomino$Game;I)I" } : Jvm.MethodName) ({ cls := "RingDomino$What$3", name := "of", desc := "(LRingDomino$Game;I)I" } : Jvm.MethodName)) ∈ lw_all := lw_g (lw_at lw_m9 169 rfl) rfl
theorem q2189 : (Jvm.Cond.instanceMethod ({ cls := "RingDomino$What$3", name := "of", desc := "(LRingDomino$Game;I)I" } : Jvm.MethodName)) ∈ lw_all := lw_g (lw_at lw_m9 170 rfl) rfl
theorem q2190 : (Jvm.Cond.code ({ cls := "RingDomino$What$3", name := "of", desc := "(LRingDomino$Game;I)I" } : Jvm.MethodName) prog_39_method_2_code (3 : Nat) (Option.some Jvm.ClassFile.FieldType.int)) ∈ lw_all := lw_g (lw_at lw_m9 171 rfl) rfl
theorem q2191 : (Jvm.Cond.methodLink "RingDomino$What$3" (7 : Nat) ({ cls := "RingDomino$Game", name := "matches", desc := "()I" } : Jvm.MethodName)) ∈ lw_all := lw_g (lw_at lw_m9 172 rfl) rfl
theorem q3393 : (Jvm.Cond.castable "RingDomino$What$3" "java/lang/Enum") ∈ lw_tbl := lw_at lw_m14 174 rfl
theorem q3429 : (Jvm.Cond.castable "RingDomino$What$3" "java/lang/Object") ∈ lw_tbl := lw_at lw_m14 210 rfl

/-! RingDomino$What$4 -/
def RX38 : String := "RingDomino$What$4"
abbrev cX38_of : ByteArray := prog_40_method_2_code
def yX38_of : MethodName := ⟨RX38, "of", "(LRingDomino$Game;I)I"⟩
theorem dX38_of_0 : decode cX38_of 0 = .ok (.aload_n 1, 1) := by decide +kernel
theorem dX38_of_1 : decode cX38_of 1 = .ok (.invokevirtual 7, 3) := by decide +kernel
theorem dX38_of_4 : decode cX38_of 4 = .ok (.ireturn, 1) := by decide +kernel
theorem q819 : (Jvm.Cond.selects "RingDomino$What$4" ({ cls := "java/lang/Object", name := "getClass", desc := "()Ljava/lang/Class;" } : Jvm.MethodName) ({ cls := "java/lang/Object", name := "getClass", desc := "()Ljava/lang/Class;" } : Jvm.MethodName)) ∈ lw_all := lw_g (lw_at lw_m4 0 rfl) rfl
theorem q1082 : (Jvm.Cond.selects "RingDomino$What$4" ({ cls := "java/lang/Object", name := "hashCode", desc := "()I" } : Jvm.MethodName) ({ cls := "java/lang/Enum", name := "hashCode", desc := "()I" } : Jvm.MethodName)) ∈ lw_all := lw_g (lw_at lw_m5 23 rfl) rfl
theorem q1199 : (Jvm.Cond.selects "RingDomino$What$4" ({ cls := "java/lang/Object", name := "equals", desc := "(Ljava/lang/Object;)Z" } : Jvm.MethodName) ({ cls := "java/lang/Enum", name := "equals", desc := "(Ljava/lang/Object;)Z" } : Jvm.MethodName)) ∈ lw_all := lw_g (lw_at lw_m5 140 rfl) rfl
theorem q1274 : (Jvm.Cond.selects "RingDomino$What$4" ({ cls := "java/lang/Enum", name := "compareTo", desc := "(Ljava/lang/Enum;)I" } : Jvm.MethodName) ({ cls := "java/lang/Enum", name := "compareTo", desc := "(Ljava/lang/Enum;)I" } : Jvm.MethodName)) ∈ lw_all := lw_g (lw_at lw_m5 215 rfl) rfl
theorem q1297 : (Jvm.Cond.selects "RingDomino$What$4" ({ cls := "java/lang/Enum", name := "getDeclaringClass", desc := "()Ljava/lang/Class;" } : Jvm.MethodName) ({ cls := "java/lang/Enum", name := "getDeclaringClass", desc := "()Ljava/lang/Class;" } : Jvm.MethodName)) ∈ lw_all := lw_g (lw_at lw_m5 238 rfl) rfl
theorem q1341 : (Jvm.Cond.castable "RingDomino$What$4" "java/lang/Comparable") ∈ lw_tbl := lw_at lw_m6 42 rfl
theorem q1342 : (Jvm.Cond.selects "RingDomino$What$4" ({ cls := "java/lang/Comparable", name := "compareTo", desc := "(Ljava/lang/Object;)I" } : Jvm.MethodName) ({ cls := "java/lang/Enum", name := "compareTo", desc := "(Ljava/lang/Object;)I" } : Jvm.MethodName)) ∈ lw_all := lw_g (lw_at lw_m6 43 rfl) rfl
theorem q1343 : (Jvm.Cond.unhidden "RingDomino$What$4" "compareTo" "(Ljava/lang/Object;)I") ∈ lw_tbl := lw_at lw_m6 44 rfl
theorem q2192 : (Jvm.Cond.selects "RingDomino$What$4" ({ cls := "RingDomino$What", name := "of", desc := "(LRingDomino$Game;I)I" } : Jvm.MethodName) ({ cls := "RingDomino$What$4", name := "of", desc := "(LRingDomino$Game;I)I" } : Jvm.MethodName)) ∈ lw_all := lw_g (lw_at lw_m9 173 rfl) rfl
theorem q2193 : (Jvm.Cond.instanceMethod ({ cls := "RingDomino$What$4", name := "of", desc := "(LRingDomino$Game;I)I" } : Jvm.MethodName)) ∈ lw_all := lw_g (lw_at lw_m9 174 rfl) rfl
theorem q2194 : (Jvm.Cond.code ({ cls := "RingDomino$What$4", name := "of", desc := "(LRingDomino$Game;I)I" } : Jvm.MethodName) prog_40_method_2_code (3 : Nat) (Option.some Jvm.ClassFile.FieldType.int)) ∈ lw_all := lw_g (lw_at lw_m9 175 rfl) rfl
theorem q2195 : (Jvm.Cond.methodLink "RingDomino$What$4" (7 : Nat) ({ cls := "RingDomino$Game", name := "points", desc := "()I" } : Jvm.MethodName)) ∈ lw_all := lw_g (lw_at lw_m9 176 rfl) rfl
theorem q3394 : (Jvm.Cond.castable "RingDomino$What$4" "java/lang/Enum") ∈ lw_tbl := lw_at lw_m14 175 rfl
theorem q3430 : (Jvm.Cond.castable "RingDomino$What$4" "java/lang/Object") ∈ lw_tbl := lw_at lw_m14 211 rfl

/-! RingDomino$What$5 -/
def RX39 : String := "RingDomino$What$5"
abbrev cX39_of : ByteArray := prog_41_method_2_code
def yX39_of : MethodName := ⟨RX39, "of", "(LRingDomino$Game;I)I"⟩
theorem dX39_of_0 : decode cX39_of 0 = .ok (.aload_n 1, 1) := by decide +kernel
theorem dX39_of_1 : decode cX39_of 1 = .ok (.invokevirtual 7, 3) := by decide +kernel
theorem dX39_of_4 : decode cX39_of 4 = .ok (.ireturn, 1) := by decide +kernel
theorem q820 : (Jvm.Cond.selects "RingDomino$What$5" ({ cls := "java/lang/Object", name := "getClass", desc := "()Ljava/lang/Class;" } : Jvm.MethodName) ({ cls := "java/lang/Object", name := "getClass", desc := "()Ljava/lang/Class;" } : Jvm.MethodName)) ∈ lw_all := lw_g (lw_at lw_m4 1 rfl) rfl
theorem q1083 : (Jvm.Cond.selects "RingDomino$What$5" ({ cls := "java/lang/Object", name := "hashCode", desc := "()I" } : Jvm.MethodName) ({ cls := "java/lang/Enum", name := "hashCode", desc := "()I" } : Jvm.MethodName)) ∈ lw_all := lw_g (lw_at lw_m5 24 rfl) rfl
theorem q1200 : (Jvm.Cond.selects "RingDomino$What$5" ({ cls := "java/lang/Object", name := "equals", desc := "(Ljava/lang/Object;)Z" } : Jvm.MethodName) ({ cls := "java/lang/Enum", name := "equals", desc := "(Ljava/lang/Object;)Z" } : Jvm.MethodName)) ∈ lw_all := lw_g (lw_at lw_m5 141 rfl) rfl
theorem q1275 : (Jvm.Cond.selects "RingDomino$What$5" ({ cls := "java/lang/Enum", name := "compareTo", desc := "(Ljava/lang/Enum;)I" } : Jvm.MethodName) ({ cls := "java/lang/Enum", name := "compareTo", desc := "(Ljava/lang/Enum;)I" } : Jvm.MethodName)) ∈ lw_all := lw_g (lw_at lw_m5 216 rfl) rfl
theorem q1298 : (Jvm.Cond.selects "RingDomino$What$5" ({ cls := "java/lang/Enum", name := "getDeclaringClass", desc := "()Ljava/lang/Class;" } : Jvm.MethodName) ({ cls := "java/lang/Enum", name := "getDeclaringClass", desc := "()Ljava/lang/Class;" } : Jvm.MethodName)) ∈ lw_all := lw_g (lw_at lw_m5 239 rfl) rfl
theorem q1344 : (Jvm.Cond.castable "RingDomino$What$5" "java/lang/Comparable") ∈ lw_tbl := lw_at lw_m6 45 rfl
theorem q1345 : (Jvm.Cond.selects "RingDomino$What$5" ({ cls := "java/lang/Comparable", name := "compareTo", desc := "(Ljava/lang/Object;)I" } : Jvm.MethodName) ({ cls := "java/lang/Enum", name := "compareTo", desc := "(Ljava/lang/Object;)I" } : Jvm.MethodName)) ∈ lw_all := lw_g (lw_at lw_m6 46 rfl) rfl
theorem q1346 : (Jvm.Cond.unhidden "RingDomino$What$5" "compareTo" "(Ljava/lang/Object;)I") ∈ lw_tbl := lw_at lw_m6 47 rfl
theorem q2196 : (Jvm.Cond.selects "RingDomino$What$5" ({ cls := "RingDomino$What", name := "of", desc := "(LRingDomino$Game;I)I" } : Jvm.MethodName) ({ cls := "RingDomino$What$5", name := "of", desc := "(LRingDomino$Game;I)I" } : Jvm.MethodName)) ∈ lw_all := lw_g (lw_at lw_m9 177 rfl) rfl
theorem q2197 : (Jvm.Cond.instanceMethod ({ cls := "RingDomino$What$5", name := "of", desc := "(LRingDomino$Game;I)I" } : Jvm.MethodName)) ∈ lw_all := lw_g (lw_at lw_m9 178 rfl) rfl
theorem q2198 : (Jvm.Cond.code ({ cls := "RingDomino$What$5", name := "of", desc := "(LRingDomino$Game;I)I" } : Jvm.MethodName) prog_41_method_2_code (3 : Nat) (Option.some Jvm.ClassFile.FieldType.int)) ∈ lw_all := lw_g (lw_at lw_m9 179 rfl) rfl
theorem q2199 : (Jvm.Cond.methodLink "RingDomino$What$5" (7 : Nat) ({ cls := "RingDomino$Game", name := "rings", desc := "()I" } : Jvm.MethodName)) ∈ lw_all := lw_g (lw_at lw_m9 180 rfl) rfl
theorem q3395 : (Jvm.Cond.castable "RingDomino$What$5" "java/lang/Enum") ∈ lw_tbl := lw_at lw_m14 176 rfl
theorem q3431 : (Jvm.Cond.castable "RingDomino$What$5" "java/lang/Object") ∈ lw_tbl := lw_at lw_m14 212 rfl

/-! RingDomino$What$6 -/
def RX40 : String := "RingDomino$What$6"
abbrev cX40_of : ByteArray := prog_42_method_2_code
def yX40_of : MethodName := ⟨RX40, "of", "(LRingDomino$Game;I)I"⟩
def dkwX40_of_0 : List UInt8 := [43, 182, 0, 7, 43, 182, 0, 13, 100, 172]
abbrev dktX40_of_0 : List UInt8 := dkwX40_of_0 ++ []
theorem dksX40_of_0 : cX40_of.data.toList.drop 0 = dktX40_of_0 := by decide +kernel
theorem dX40_of_0 : decode cX40_of 0 = .ok (.aload_n 1, 1) := dk_43 (dk_at dksX40_of_0 0 rfl rfl)
theorem dX40_of_1 : decode cX40_of 1 = .ok (.invokevirtual 7, 3) := dk_182 0 7 (dk_at dksX40_of_0 1 rfl rfl)
theorem dX40_of_4 : decode cX40_of 4 = .ok (.aload_n 1, 1) := dk_43 (dk_at dksX40_of_0 4 rfl rfl)
theorem dX40_of_5 : decode cX40_of 5 = .ok (.invokevirtual 13, 3) := dk_182 0 13 (dk_at dksX40_of_0 5 rfl rfl)
theorem dX40_of_8 : decode cX40_of 8 = .ok (.isub, 1) := dk_100 (dk_at dksX40_of_0 8 rfl rfl)
theorem dX40_of_9 : decode cX40_of 9 = .ok (.ireturn, 1) := dk_172 (dk_at dksX40_of_0 9 rfl rfl)
theorem q821 : (Jvm.Cond.selects "RingDomino$What$6" ({ cls := "java/lang/Object", name := "getClass", desc := "()Ljava/lang/Class;" } : Jvm.MethodName) ({ cls := "java/lang/Object", name := "getClass", desc := "()Ljava/lang/Class;" } : Jvm.MethodName)) ∈ lw_all := lw_g (lw_at lw_m4 2 rfl) rfl
theorem q1084 : (Jvm.Cond.selects "RingDomino$What$6" ({ cls := "java/lang/Object", name := "hashCode", desc := "()I" } : Jvm.MethodName) ({ cls := "java/lang/Enum", name := "hashCode", desc := "()I" } : Jvm.MethodName)) ∈ lw_all := lw_g (lw_at lw_m5 25 rfl) rfl
theorem q1201 : (Jvm.Cond.selects "RingDomino$What$6" ({ cls := "java/lang/Object", name := "equals", desc := "(Ljava/lang/Object;)Z" } : Jvm.MethodName) ({ cls := "java/lang/Enum", name := "equals", desc := "(Ljava/lang/Object;)Z" } : Jvm.MethodName)) ∈ lw_all := lw_g (lw_at lw_m5 142 rfl) rfl
theorem q1276 : (Jvm.Cond.selects "RingDomino$What$6" ({ cls := "java/lang/Enum", name := "compareTo", desc := "(Ljava/lang/Enum;)I" } : Jvm.MethodName) ({ cls := "java/lang/Enum", name := "compareTo", desc := "(Ljava/lang/Enum;)I" } : Jvm.MethodName)) ∈ lw_all := lw_g (lw_at lw_m5 217 rfl) rfl
theorem q1299 : (Jvm.Cond.selects "RingDomino$What$6" ({ cls := "java/lang/Enum", name := "getDeclaringClass", desc := "()Ljava/lang/Class;" } : Jvm.MethodName) ({ cls := "java/lang/Enum", name := "getDeclaringClass", desc := "()Ljava/lang/Class;" } : Jvm.MethodName)) ∈ lw_all := lw_g (lw_at lw_m6 0 rfl) rfl
theorem q1347 : (Jvm.Cond.castable "RingDomino$What$6" "java/lang/Comparable") ∈ lw_tbl := lw_at lw_m6 48 rfl
theorem q1348 : (Jvm.Cond.selects "RingDomino$What$6" ({ cls := "java/lang/Comparable", name := "compareTo", desc := "(Ljava/lang/Object;)I" } : Jvm.MethodName) ({ cls := "java/lang/Enum", name := "compareTo", desc := "(Ljava/lang/Object;)I" } : Jvm.MethodName)) ∈ lw_all := lw_g (lw_at lw_m6 49 rfl) rfl
theorem q1349 : (Jvm.Cond.unhidden "RingDomino$What$6" "compareTo" "(Ljava/lang/Object;)I") ∈ lw_tbl := lw_at lw_m6 50 rfl
theorem q2200 : (Jvm.Cond.selects "RingDomino$What$6" ({ cls := "RingDomino$What", name := "of", desc := "(LRingDomino$Game;I)I" } : Jvm.MethodName) ({ cls := "RingDomino$What$6", name := "of", desc := "(LRingDomino$Game;I)I" } : Jvm.MethodName)) ∈ lw_all := lw_g (lw_at lw_m9 181 rfl) rfl
theorem q2201 : (Jvm.Cond.instanceMethod ({ cls := "RingDomino$What$6", name := "of", desc := "(LRingDomino$Game;I)I" } : Jvm.MethodName)) ∈ lw_all := lw_g (lw_at lw_m9 182 rfl) rfl
theorem q2202 : (Jvm.Cond.code ({ cls := "RingDomino$What$6", name := "of", desc := "(LRingDomino$Game;I)I" } : Jvm.MethodName) prog_42_method_2_code (3 : Nat) (Option.some Jvm.ClassFile.FieldType.int)) ∈ lw_all := lw_g (lw_at lw_m9 183 rfl) rfl
theorem q2203 : (Jvm.Cond.methodLink "RingDomino$What$6" (7 : Nat) ({ cls := "RingDomino$Game", name := "cells", desc := "()I" } : Jvm.MethodName)) ∈ lw_all := lw_g (lw_at lw_m9 184 rfl) rfl
theorem q2204 : (Jvm.Cond.methodLink "RingDomino$What$6" (13 : Nat) ({ cls := "RingDomino$Game", name := "placed", desc := "()I" } : Jvm.MethodName)) ∈ lw_all := lw_g (lw_at lw_m9 185 rfl) rfl
theorem q3396 : (Jvm.Cond.castable "RingDomino$What$6" "java/lang/Enum") ∈ lw_tbl := lw_at lw_m14 177 rfl
theorem q3432 : (Jvm.Cond.castable "RingDomino$What$6" "java/lang/Object") ∈ lw_tbl := lw_at lw_m14 213 rfl

/-! RingDomino$What$7 -/
def RX41 : String := "RingDomino$What$7"
abbrev cX41_of : ByteArray := prog_43_method_2_code
def yX41_of : MethodName := ⟨RX41, "of", "(LRingDomino$Game;I)I"⟩
def dkwX41_of_0 : List UInt8 := [43, 28, 182, 0, 7, 172]
abbrev dktX41_of_0 : List UInt8 := dkwX41_of_0 ++ []
theorem dksX41_of_0 : cX41_of.data.toList.drop 0 = dktX41_of_0 := by decide +kernel
theorem dX41_of_0 : decode cX41_of 0 = .ok (.aload_n 1, 1) := dk_43 (dk_at dksX41_of_0 0 rfl rfl)
theorem dX41_of_1 : decode cX41_of 1 = .ok (.iload_n 2, 1) := dk_28 (dk_at dksX41_of_0 1 rfl rfl)
theorem dX41_of_2 : decode cX41_of 2 = .ok (.invokevirtual 7, 3) := dk_182 0 7 (dk_at dksX41_of_0 2 rfl rfl)
theorem dX41_of_5 : decode cX41_of 5 = .ok (.ireturn, 1) := dk_172 (dk_at dksX41_of_0 5 rfl rfl)
theorem q822 : (Jvm.Cond.selects "RingDomino$What$7" ({ cls := "java/lang/Object", name := "getClass", desc := "()Ljava/lang/Class;" } : Jvm.MethodName) ({ cls := "java/lang/Object", name := "getClass", desc := "()Ljava/lang/Class;" } : Jvm.MethodName)) ∈ lw_all := lw_g (lw_at lw_m4 3 rfl) rfl
theorem q1085 : (Jvm.Cond.selects "RingDomino$What$7" ({ cls := "java/lang/Object", name := "hashCode", desc := "()I" } : Jvm.MethodName) ({ cls := "java/lang/Enum", name := "hashCode", desc := "()I" } : Jvm.MethodName)) ∈ lw_all := lw_g (lw_at lw_m5 26 rfl) rfl
theorem q1202 : (Jvm.Cond.selects "RingDomino$What$7" ({ cls := "java/lang/Object", name := "equals", desc := "(Ljava/lang/Object;)Z" } : Jvm.MethodName) ({ cls := "java/lang/Enum", name := "equals", desc := "(Ljava/lang/Object;)Z" } : Jvm.MethodName)) ∈ lw_all := lw_g (lw_at lw_m5 143 rfl) rfl
theorem q1277 : (Jvm.Cond.selects "RingDomino$What$7" ({ cls := "java/lang/Enum", name := "compareTo", desc := "(Ljava/lang/Enum;)I" } : Jvm.MethodName) ({ cls := "java/lang/Enum", name := "compareTo", desc := "(Ljava/lang/Enum;)I" } : Jvm.MethodName)) ∈ lw_all := lw_g (lw_at lw_m5 218 rfl) rfl
theorem q1300 : (Jvm.Cond.selects "RingDomino$What$7" ({ cls := "java/lang/Enum", name := "getDeclaringClass", desc := "()Ljava/lang/Class;" } : Jvm.MethodName) ({ cls := "java/lang/Enum", name := "getDeclaringClass", desc := "()Ljava/lang/Class;" } : Jvm.MethodName)) ∈ lw_all := lw_g (lw_at lw_m6 1 rfl) rfl
theorem q1350 : (Jvm.Cond.castable "RingDomino$What$7" "java/lang/Comparable") ∈ lw_tbl := lw_at lw_m6 51 rfl
theorem q1351 : (Jvm.Cond.selects "RingDomino$What$7" ({ cls := "java/lang/Comparable", name := "compareTo", desc := "(Ljava/lang/Object;)I" } : Jvm.MethodName) ({ cls := "java/lang/Enum", name := "compareTo", desc := "(Ljava/lang/Object;)I" } : Jvm.MethodName)) ∈ lw_all := lw_g (lw_at lw_m6 52 rfl) rfl
theorem q1352 : (Jvm.Cond.unhidden "RingDomino$What$7" "compareTo" "(Ljava/lang/Object;)I") ∈ lw_tbl := lw_at lw_m6 53 rfl
theorem q2205 : (Jvm.Cond.selects "RingDomino$What$7" ({ cls := "RingDomino$What", name := "of", desc := "(LRingDomino$Game;I)I" } : Jvm.MethodName) ({ cls := "RingDomino$What$7", name := "of", desc := "(LRingDomino$Game;I)I" } : Jvm.MethodName)) ∈ lw_all := lw_g (lw_at lw_m9 186 rfl) rfl
theorem q2206 : (Jvm.Cond.instanceMethod ({ cls := "RingDomino$What$7", name := "of", desc := "(LRingDomino$Game;I)I" } : Jvm.MethodName)) ∈ lw_all := lw_g (lw_at lw_m9 187 rfl) rfl
theorem q2207 : (Jvm.Cond.code ({ cls := "RingDomino$What$7", name := "of", desc := "(LRingDomino$Game;I)I" } : Jvm.MethodName) prog_43_method_2_code (3 : Nat) (Option.some Jvm.ClassFile.FieldType.int)) ∈ lw_all := lw_g (lw_at lw_m9 188 rfl) rfl
theorem q2208 : (Jvm.Cond.methodLink "RingDomino$What$7" (7 : Nat) ({ cls := "RingDomino$Game", name := "ways", desc := "(I)I" } : Jvm.MethodName)) ∈ lw_all := lw_g (lw_at lw_m9 189 rfl) rfl
theorem q3397 : (Jvm.Cond.castable "RingDomino$What$7" "java/lang/Enum") ∈ lw_tbl := lw_at lw_m14 178 rfl
theorem q3433 : (Jvm.Cond.castable "RingDomino$What$7" "java/lang/Object") ∈ lw_tbl := lw_at lw_m14 214 rfl

