set_option maxRecDepth 100000
/-! Keygrove$Tree -/
def RX10 : String := "Keygrove$Tree"
def TX10 : u_T := fun k => match k with
  | 0 => ("Keygrove$Tree", "leaves", "I", false)
  | 1 => ("Keygrove$Tree", "secrets", "[I", true)
  | 2 => ("Keygrove$Tree", "late", "[I", true)
  | _ => ("Keygrove$Tree", "persons", "[I", true)
def tyX10 : Nat → FieldType := fun k => match k with
  | 0 => .int
  | 1 => .array .int
  | 2 => .array .int
  | _ => .array .int
abbrev wsX100 : List Cond := u_ws RX10 TX10 4
theorem nmX10 : ∀ a, a < 4 → ∀ b, b < 4 → a ≠ b → (TX10 a).2.1 ≠ (TX10 b).2.1 := by decide +kernel
theorem tyX10_ok : ∀ k, k < 4 → parseFieldDescriptor (TX10 k).2.2.1 = some (tyX10 k) := by decide +kernel
abbrev cX10_nodes : ByteArray := prog_13_method_3_code
def yX10_nodes : MethodName := ⟨RX10, "nodes", "()I"⟩
def dkwX10_nodes_0 : List UInt8 := [5, 42, 180, 0, 9, 104, 4, 100, 172]
abbrev dktX10_nodes_0 : List UInt8 := dkwX10_nodes_0 ++ []
theorem dksX10_nodes_0 : cX10_nodes.data.toList.drop 0 = dktX10_nodes_0 := by decide +kernel
theorem dX10_nodes_0 : decode cX10_nodes 0 = .ok (.iconst 2, 1) := dk_5 (dk_at dksX10_nodes_0 0 rfl rfl)
theorem dX10_nodes_1 : decode cX10_nodes 1 = .ok (.aload_n 0, 1) := dk_42 (dk_at dksX10_nodes_0 1 rfl rfl)
theorem dX10_nodes_2 : decode cX10_nodes 2 = .ok (.getfield 9, 3) := dk_180 0 9 (dk_at dksX10_nodes_0 2 rfl rfl)
theorem dX10_nodes_5 : decode cX10_nodes 5 = .ok (.imul, 1) := dk_104 (dk_at dksX10_nodes_0 5 rfl rfl)
theorem dX10_nodes_6 : decode cX10_nodes 6 = .ok (.iconst 1, 1) := dk_4 (dk_at dksX10_nodes_0 6 rfl rfl)
theorem dX10_nodes_7 : decode cX10_nodes 7 = .ok (.isub, 1) := dk_100 (dk_at dksX10_nodes_0 7 rfl rfl)
theorem dX10_nodes_8 : decode cX10_nodes 8 = .ok (.ireturn, 1) := dk_172 (dk_at dksX10_nodes_0 8 rfl rfl)
abbrev cX10_isBlank : ByteArray := prog_13_method_11_code
def yX10_isBlank : MethodName := ⟨RX10, "isBlank", "(I)Z"⟩
def dkwX10_isBlank_0 : List UInt8 := [42, 180, 0, 15, 27, 46, 2, 160, 0, 7, 4, 167, 0, 4, 3, 172]
abbrev dktX10_isBlank_0 : List UInt8 := dkwX10_isBlank_0 ++ []
theorem dksX10_isBlank_0 : cX10_isBlank.data.toList.drop 0 = dktX10_isBlank_0 := by decide +kernel
theorem dX10_isBlank_0 : decode cX10_isBlank 0 = .ok (.aload_n 0, 1) := dk_42 (dk_at dksX10_isBlank_0 0 rfl rfl)
theorem dX10_isBlank_1 : decode cX10_isBlank 1 = .ok (.getfield 15, 3) := dk_180 0 15 (dk_at dksX10_isBlank_0 1 rfl rfl)
theorem dX10_isBlank_4 : decode cX10_isBlank 4 = .ok (.iload_n 1, 1) := dk_27 (dk_at dksX10_isBlank_0 4 rfl rfl)
theorem dX10_isBlank_5 : decode cX10_isBlank 5 = .ok (.iaload, 1) := dk_46 (dk_at dksX10_isBlank_0 5 rfl rfl)
theorem dX10_isBlank_6 : decode cX10_isBlank 6 = .ok (.iconst (-1), 1) := dk_2 (dk_at dksX10_isBlank_0 6 rfl rfl)
theorem dX10_isBlank_7 : decode cX10_isBlank 7 = .ok (.if_icmp .ne 7, 3) := dk_160 0 7 (dk_at dksX10_isBlank_0 7 rfl rfl)
theorem dX10_isBlank_10 : decode cX10_isBlank 10 = .ok (.iconst 1, 1) := dk_4 (dk_at dksX10_isBlank_0 10 rfl rfl)
theorem dX10_isBlank_11 : decode cX10_isBlank 11 = .ok (.goto 4, 3) := dk_167 0 4 (dk_at dksX10_isBlank_0 11 rfl rfl)
theorem dX10_isBlank_14 : decode cX10_isBlank 14 = .ok (.iconst 0, 1) := dk_3 (dk_at dksX10_isBlank_0 14 rfl rfl)
theorem dX10_isBlank_15 : decode cX10_isBlank 15 = .ok (.ireturn, 1) := dk_172 (dk_at dksX10_isBlank_0 15 rfl rfl)
abbrev cX10_leafOf : ByteArray := prog_13_method_20_code
def yX10_leafOf : MethodName := ⟨RX10, "leafOf", "(I)I"⟩
def dkwX10_leafOf_1 : List UInt8 := [132, 2, 1, 167, 255, 233, 2, 172]
abbrev dktX10_leafOf_1 : List UInt8 := dkwX10_leafOf_1 ++ []
def dkwX10_leafOf_0 : List UInt8 := [3, 61, 28, 42, 180, 0, 9, 162, 0, 21, 42, 180, 0, 22, 28, 46, 27, 160, 0, 5, 28, 172]
abbrev dktX10_leafOf_0 : List UInt8 := dkwX10_leafOf_0 ++ dktX10_leafOf_1
theorem dksX10_leafOf_0 : cX10_leafOf.data.toList.drop 0 = dktX10_leafOf_0 := by decide +kernel
theorem dksX10_leafOf_1 : cX10_leafOf.data.toList.drop 22 = dktX10_leafOf_1 := dk_seg dksX10_leafOf_0 22 rfl rfl
theorem dX10_leafOf_0 : decode cX10_leafOf 0 = .ok (.iconst 0, 1) := dk_3 (dk_at dksX10_leafOf_0 0 rfl rfl)
theorem dX10_leafOf_1 : decode cX10_leafOf 1 = .ok (.istore_n 2, 1) := dk_61 (dk_at dksX10_leafOf_0 1 rfl rfl)
theorem dX10_leafOf_2 : decode cX10_leafOf 2 = .ok (.iload_n 2, 1) := dk_28 (dk_at dksX10_leafOf_0 2 rfl rfl)
theorem dX10_leafOf_3 : decode cX10_leafOf 3 = .ok (.aload_n 0, 1) := dk_42 (dk_at dksX10_leafOf_0 3 rfl rfl)
theorem dX10_leafOf_4 : decode cX10_leafOf 4 = .ok (.getfield 9, 3) := dk_180 0 9 (dk_at dksX10_leafOf_0 4 rfl rfl)
theorem dX10_leafOf_7 : decode cX10_leafOf 7 = .ok (.if_icmp .ge 21, 3) := dk_162 0 21 (dk_at dksX10_leafOf_0 7 rfl rfl)
theorem dX10_leafOf_10 : decode cX10_leafOf 10 = .ok (.aload_n 0, 1) := dk_42 (dk_at dksX10_leafOf_0 10 rfl rfl)
theorem dX10_leafOf_11 : decode cX10_leafOf 11 = .ok (.getfield 22, 3) := dk_180 0 22 (dk_at dksX10_leafOf_0 11 rfl rfl)
theorem dX10_leafOf_14 : decode cX10_leafOf 14 = .ok (.iload_n 2, 1) := dk_28 (dk_at dksX10_leafOf_0 14 rfl rfl)
theorem dX10_leafOf_15 : decode cX10_leafOf 15 = .ok (.iaload, 1) := dk_46 (dk_at dksX10_leafOf_0 15 rfl rfl)
theorem dX10_leafOf_16 : decode cX10_leafOf 16 = .ok (.iload_n 1, 1) := dk_27 (dk_at dksX10_leafOf_0 16 rfl rfl)
theorem dX10_leafOf_17 : decode cX10_leafOf 17 = .ok (.if_icmp .ne 5, 3) := dk_160 0 5 (dk_at dksX10_leafOf_0 17 rfl rfl)
theorem dX10_leafOf_20 : decode cX10_leafOf 20 = .ok (.iload_n 2, 1) := dk_28 (dk_at dksX10_leafOf_0 20 rfl rfl)
theorem dX10_leafOf_21 : decode cX10_leafOf 21 = .ok (.ireturn, 1) := dk_172 (dk_at dksX10_leafOf_0 21 rfl rfl)
theorem dX10_leafOf_22 : decode cX10_leafOf 22 = .ok (.iinc 2 1, 3) := dk_132 2 1 (dk_at dksX10_leafOf_1 0 rfl rfl)
theorem dX10_leafOf_25 : decode cX10_leafOf 25 = .ok (.goto (-23), 3) := dk_167 255 233 (dk_at dksX10_leafOf_1 3 rfl rfl)
theorem dX10_leafOf_28 : decode cX10_leafOf 28 = .ok (.iconst (-1), 1) := dk_2 (dk_at dksX10_leafOf_1 6 rfl rfl)
theorem dX10_leafOf_29 : decode cX10_leafOf 29 = .ok (.ireturn, 1) := dk_172 (dk_at dksX10_leafOf_1 7 rfl rfl)
abbrev cX10_covers : ByteArray := prog_13_method_9_code
def yX10_covers : MethodName := ⟨RX10, "covers", "(II)Z"⟩
def dkwX10_covers_0 : List UInt8 := [26, 184, 0, 32, 61, 27, 28, 122, 26, 4, 96, 28, 4, 96, 122, 160, 0, 7, 4, 167, 0, 4, 3, 172]
abbrev dktX10_covers_0 : List UInt8 := dkwX10_covers_0 ++ []
theorem dksX10_covers_0 : cX10_covers.data.toList.drop 0 = dktX10_covers_0 := by decide +kernel
theorem dX10_covers_0 : decode cX10_covers 0 = .ok (.iload_n 0, 1) := dk_26 (dk_at dksX10_covers_0 0 rfl rfl)
theorem dX10_covers_1 : decode cX10_covers 1 = .ok (.invokestatic 32, 3) := dk_184 0 32 (dk_at dksX10_covers_0 1 rfl rfl)
theorem dX10_covers_4 : decode cX10_covers 4 = .ok (.istore_n 2, 1) := dk_61 (dk_at dksX10_covers_0 4 rfl rfl)
theorem dX10_covers_5 : decode cX10_covers 5 = .ok (.iload_n 1, 1) := dk_27 (dk_at dksX10_covers_0 5 rfl rfl)
theorem dX10_covers_6 : decode cX10_covers 6 = .ok (.iload_n 2, 1) := dk_28 (dk_at dksX10_covers_0 6 rfl rfl)
theorem dX10_covers_7 : decode cX10_covers 7 = .ok (.ishr, 1) := dk_122 (dk_at dksX10_covers_0 7 rfl rfl)
theorem dX10_covers_8 : decode cX10_covers 8 = .ok (.iload_n 0, 1) := dk_26 (dk_at dksX10_covers_0 8 rfl rfl)
theorem dX10_covers_9 : decode cX10_covers 9 = .ok (.iconst 1, 1) := dk_4 (dk_at dksX10_covers_0 9 rfl rfl)
theorem dX10_covers_10 : decode cX10_covers 10 = .ok (.iadd, 1) := dk_96 (dk_at dksX10_covers_0 10 rfl rfl)
theorem dX10_covers_11 : decode cX10_covers 11 = .ok (.iload_n 2, 1) := dk_28 (dk_at dksX10_covers_0 11 rfl rfl)
theorem dX10_covers_12 : decode cX10_covers 12 = .ok (.iconst 1, 1) := dk_4 (dk_at dksX10_covers_0 12 rfl rfl)
theorem dX10_covers_13 : decode cX10_covers 13 = .ok (.iadd, 1) := dk_96 (dk_at dksX10_covers_0 13 rfl rfl)
theorem dX10_covers_14 : decode cX10_covers 14 = .ok (.ishr, 1) := dk_122 (dk_at dksX10_covers_0 14 rfl rfl)
theorem dX10_covers_15 : decode cX10_covers 15 = .ok (.if_icmp .ne 7, 3) := dk_160 0 7 (dk_at dksX10_covers_0 15 rfl rfl)
theorem dX10_covers_18 : decode cX10_covers 18 = .ok (.iconst 1, 1) := dk_4 (dk_at dksX10_covers_0 18 rfl rfl)
theorem dX10_covers_19 : decode cX10_covers 19 = .ok (.goto 4, 3) := dk_167 0 4 (dk_at dksX10_covers_0 19 rfl rfl)
theorem dX10_covers_22 : decode cX10_covers 22 = .ok (.iconst 0, 1) := dk_3 (dk_at dksX10_covers_0 22 rfl rfl)
theorem dX10_covers_23 : decode cX10_covers 23 = .ok (.ireturn, 1) := dk_172 (dk_at dksX10_covers_0 23 rfl rfl)
abbrev cX10_level : ByteArray := prog_13_method_5_code
def yX10_level : MethodName := ⟨RX10, "level", "(I)I"⟩
def dkwX10_level_0 : List UInt8 := [26, 4, 96, 184, 0, 26, 172]
abbrev dktX10_level_0 : List UInt8 := dkwX10_level_0 ++ []
theorem dksX10_level_0 : cX10_level.data.toList.drop 0 = dktX10_level_0 := by decide +kernel
theorem dX10_level_0 : decode cX10_level 0 = .ok (.iload_n 0, 1) := dk_26 (dk_at dksX10_level_0 0 rfl rfl)
theorem dX10_level_1 : decode cX10_level 1 = .ok (.iconst 1, 1) := dk_4 (dk_at dksX10_level_0 1 rfl rfl)
theorem dX10_level_2 : decode cX10_level 2 = .ok (.iadd, 1) := dk_96 (dk_at dksX10_level_0 2 rfl rfl)
theorem dX10_level_3 : decode cX10_level 3 = .ok (.invokestatic 26, 3) := dk_184 0 26 (dk_at dksX10_level_0 3 rfl rfl)
theorem dX10_level_6 : decode cX10_level 6 = .ok (.ireturn, 1) := dk_172 (dk_at dksX10_level_0 6 rfl rfl)
abbrev cX10_init : ByteArray := prog_13_method_1_code
def yX10_init : MethodName := ⟨RX10, "<init>", "()V"⟩
def dkwX10_init_3 : List UInt8 := [27, 2, 79, 132, 1, 1, 167, 255, 240, 177]
abbrev dktX10_init_3 : List UInt8 := dkwX10_init_3 ++ []
def dkwX10_init_2 : List UInt8 := [180, 0, 15, 27, 2, 79, 132, 1, 1, 167, 255, 237, 3, 60, 27, 16, 16, 162, 0, 16, 42, 180, 0, 22]
abbrev dktX10_init_2 : List UInt8 := dkwX10_init_2 ++ dktX10_init_3
def dkwX10_init_1 : List UInt8 := [181, 0, 19, 42, 16, 16, 188, 10, 181, 0, 22, 3, 60, 27, 42, 180, 0, 15, 190, 162, 0, 16, 42]
abbrev dktX10_init_1 : List UInt8 := dkwX10_init_1 ++ dktX10_init_2
def dkwX10_init_0 : List UInt8 := [42, 183, 0, 3, 42, 4, 181, 0, 9, 42, 16, 31, 188, 10, 181, 0, 15, 42, 16, 31, 188, 10]
abbrev dktX10_init_0 : List UInt8 := dkwX10_init_0 ++ dktX10_init_1
theorem dksX10_init_0 : cX10_init.data.toList.drop 0 = dktX10_init_0 := by decide +kernel
theorem dksX10_init_1 : cX10_init.data.toList.drop 22 = dktX10_init_1 := dk_seg dksX10_init_0 22 rfl rfl
theorem dksX10_init_2 : cX10_init.data.toList.drop 45 = dktX10_init_2 := dk_seg dksX10_init_1 23 rfl rfl
theorem dksX10_init_3 : cX10_init.data.toList.drop 69 = dktX10_init_3 := dk_seg dksX10_init_2 24 rfl rfl
theorem dX10_init_0 : decode cX10_init 0 = .ok (.aload_n 0, 1) := dk_42 (dk_at dksX10_init_0 0 rfl rfl)
theorem dX10_init_1 : decode cX10_init 1 = .ok (.invokespecial 3, 3) := dk_183 0 3 (dk_at dksX10_init_0 1 rfl rfl)
theorem dX10_init_4 : decode cX10_init 4 = .ok (.aload_n 0, 1) := dk_42 (dk_at dksX10_init_0 4 rfl rfl)
theorem dX10_init_5 : decode cX10_init 5 = .ok (.iconst 1, 1) := dk_4 (dk_at dksX10_init_0 5 rfl rfl)
theorem dX10_init_6 : decode cX10_init 6 = .ok (.putfield 9, 3) := dk_181 0 9 (dk_at dksX10_init_0 6 rfl rfl)
theorem dX10_init_9 : decode cX10_init 9 = .ok (.aload_n 0, 1) := dk_42 (dk_at dksX10_init_0 9 rfl rfl)
theorem dX10_init_10 : decode cX10_init 10 = .ok (.bipush 31, 2) := dk_16 31 (dk_at dksX10_init_0 10 rfl rfl)
theorem dX10_init_12 : decode cX10_init 12 = .ok (.newarray .int, 2) := dk_188_10 (dk_at dksX10_init_0 12 rfl rfl)
theorem dX10_init_14 : decode cX10_init 14 = .ok (.putfield 15, 3) := dk_181 0 15 (dk_at dksX10_init_0 14 rfl rfl)
theorem dX10_init_17 : decode cX10_init 17 = .ok (.aload_n 0, 1) := dk_42 (dk_at dksX10_init_0 17 rfl rfl)
theorem dX10_init_18 : decode cX10_init 18 = .ok (.bipush 31, 2) := dk_16 31 (dk_at dksX10_init_0 18 rfl rfl)
theorem dX10_init_20 : decode cX10_init 20 = .ok (.newarray .int, 2) := dk_188_10 (dk_at dksX10_init_0 20 rfl rfl)
theorem dX10_init_22 : decode cX10_init 22 = .ok (.putfield 19, 3) := dk_181 0 19 (dk_at dksX10_init_1 0 rfl rfl)
theorem dX10_init_25 : decode cX10_init 25 = .ok (.aload_n 0, 1) := dk_42 (dk_at dksX10_init_1 3 rfl rfl)
theorem dX10_init_26 : decode cX10_init 26 = .ok (.bipush 16, 2) := dk_16 16 (dk_at dksX10_init_1 4 rfl rfl)
theorem dX10_init_28 : decode cX10_init 28 = .ok (.newarray .int, 2) := dk_188_10 (dk_at dksX10_init_1 6 rfl rfl)
theorem dX10_init_30 : decode cX10_init 30 = .ok (.putfield 22, 3) := dk_181 0 22 (dk_at dksX10_init_1 8 rfl rfl)
theorem dX10_init_33 : decode cX10_init 33 = .ok (.iconst 0, 1) := dk_3 (dk_at dksX10_init_1 11 rfl rfl)
theorem dX10_init_34 : decode cX10_init 34 = .ok (.istore_n 1, 1) := dk_60 (dk_at dksX10_init_1 12 rfl rfl)
theorem dX10_init_35 : decode cX10_init 35 = .ok (.iload_n 1, 1) := dk_27 (dk_at dksX10_init_1 13 rfl rfl)
theorem dX10_init_36 : decode cX10_init 36 = .ok (.aload_n 0, 1) := dk_42 (dk_at dksX10_init_1 14 rfl rfl)
theorem dX10_init_37 : decode cX10_init 37 = .ok (.getfield 15, 3) := dk_180 0 15 (dk_at dksX10_init_1 15 rfl rfl)
theorem dX10_init_40 : decode cX10_init 40 = .ok (.arraylength, 1) := dk_190 (dk_at dksX10_init_1 18 rfl rfl)
theorem dX10_init_41 : decode cX10_init 41 = .ok (.if_icmp .ge 16, 3) := dk_162 0 16 (dk_at dksX10_init_1 19 rfl rfl)
theorem dX10_init_44 : decode cX10_init 44 = .ok (.aload_n 0, 1) := dk_42 (dk_at dksX10_init_1 22 rfl rfl)
theorem dX10_init_45 : decode cX10_init 45 = .ok (.getfield 15, 3) := dk_180 0 15 (dk_at dksX10_init_2 0 rfl rfl)
theorem dX10_init_48 : decode cX10_init 48 = .ok (.iload_n 1, 1) := dk_27 (dk_at dksX10_init_2 3 rfl rfl)
theorem dX10_init_49 : decode cX10_init 49 = .ok (.iconst (-1), 1) := dk_2 (dk_at dksX10_init_2 4 rfl rfl)
theorem dX10_init_50 : decode cX10_init 50 = .ok (.iastore, 1) := dk_79 (dk_at dksX10_init_2 5 rfl rfl)
theorem dX10_init_51 : decode cX10_init 51 = .ok (.iinc 1 1, 3) := dk_132 1 1 (dk_at dksX10_init_2 6 rfl rfl)
theorem dX10_init_54 : decode cX10_init 54 = .ok (.goto (-19), 3) := dk_167 255 237 (dk_at dksX10_init_2 9 rfl rfl)
theorem dX10_init_57 : decode cX10_init 57 = .ok (.iconst 0, 1) := dk_3 (dk_at dksX10_init_2 12 rfl rfl)
theorem dX10_init_58 : decode cX10_init 58 = .ok (.istore_n 1, 1) := dk_60 (dk_at dksX10_init_2 13 rfl rfl)
theorem dX10_init_59 : decode cX10_init 59 = .ok (.iload_n 1, 1) := dk_27 (dk_at dksX10_init_2 14 rfl rfl)
theorem dX10_init_60 : decode cX10_init 60 = .ok (.bipush 16, 2) := dk_16 16 (dk_at dksX10_init_2 15 rfl rfl)
theorem dX10_init_62 : decode cX10_init 62 = .ok (.if_icmp .ge 16, 3) := dk_162 0 16 (dk_at dksX10_init_2 17 rfl rfl)
theorem dX10_init_65 : decode cX10_init 65 = .ok (.aload_n 0, 1) := dk_42 (dk_at dksX10_init_2 20 rfl rfl)
theorem dX10_init_66 : decode cX10_init 66 = .ok (.getfield 22, 3) := dk_180 0 22 (dk_at dksX10_init_2 21 rfl rfl)
theorem dX10_init_69 : decode cX10_init 69 = .ok (.iload_n 1, 1) := dk_27 (dk_at dksX10_init_3 0 rfl rfl)
theorem dX10_init_70 : decode cX10_init 70 = .ok (.iconst (-1), 1) := dk_2 (dk_at dksX10_init_3 1 rfl rfl)
theorem dX10_init_71 : decode cX10_init 71 = .ok (.iastore, 1) := dk_79 (dk_at dksX10_init_3 2 rfl rfl)
theorem dX10_init_72 : decode cX10_init 72 = .ok (.iinc 1 1, 3) := dk_132 1 1 (dk_at dksX10_init_3 3 rfl rfl)
theorem dX10_init_75 : decode cX10_init 75 = .ok (.goto (-16), 3) := dk_167 255 240 (dk_at dksX10_init_3 6 rfl rfl)
theorem dX10_init_78 : decode cX10_init 78 = .ok (.return_, 1) := dk_177 (dk_at dksX10_init_3 9 rfl rfl)
abbrev cX10_copy : ByteArray := prog_13_method_2_code
def yX10_copy : MethodName := ⟨RX10, "copy", "()LKeygrove$Tree;"⟩
def dkwX10_copy_3 : List UInt8 := [180, 0, 22, 28, 46, 79, 132, 2, 1, 167, 255, 235, 43, 176]
abbrev dktX10_copy_3 : List UInt8 := dkwX10_copy_3 ++ []
def dkwX10_copy_2 : List UInt8 := [28, 46, 79, 132, 2, 1, 167, 255, 220, 3, 61, 28, 16, 16, 162, 0, 21, 43, 180, 0, 22, 28, 42]
abbrev dktX10_copy_2 : List UInt8 := dkwX10_copy_2 ++ dktX10_copy_3
def dkwX10_copy_1 : List UInt8 := [162, 0, 33, 43, 180, 0, 15, 28, 42, 180, 0, 15, 28, 46, 79, 43, 180, 0, 19, 28, 42, 180, 0, 19]
abbrev dktX10_copy_1 : List UInt8 := dkwX10_copy_1 ++ dktX10_copy_2
def dkwX10_copy_0 : List UInt8 := [187, 0, 10, 89, 183, 0, 25, 76, 43, 42, 180, 0, 9, 181, 0, 9, 3, 61, 28, 42, 180, 0, 15, 190]
abbrev dktX10_copy_0 : List UInt8 := dkwX10_copy_0 ++ dktX10_copy_1
theorem dksX10_copy_0 : cX10_copy.data.toList.drop 0 = dktX10_copy_0 := by decide +kernel
theorem dksX10_copy_1 : cX10_copy.data.toList.drop 24 = dktX10_copy_1 := dk_seg dksX10_copy_0 24 rfl rfl
theorem dksX10_copy_2 : cX10_copy.data.toList.drop 48 = dktX10_copy_2 := dk_seg dksX10_copy_1 24 rfl rfl
theorem dksX10_copy_3 : cX10_copy.data.toList.drop 71 = dktX10_copy_3 := dk_seg dksX10_copy_2 23 rfl rfl
theorem dX10_copy_0 : decode cX10_copy 0 = .ok (.new 10, 3) := dk_187 0 10 (dk_at dksX10_copy_0 0 rfl rfl)
theorem dX10_copy_3 : decode cX10_copy 3 = .ok (.dup, 1) := dk_89 (dk_at dksX10_copy_0 3 rfl rfl)
theorem dX10_copy_4 : decode cX10_copy 4 = .ok (.invokespecial 25, 3) := dk_183 0 25 (dk_at dksX10_copy_0 4 rfl rfl)
theorem dX10_copy_7 : decode cX10_copy 7 = .ok (.astore_n 1, 1) := dk_76 (dk_at dksX10_copy_0 7 rfl rfl)
theorem dX10_copy_8 : decode cX10_copy 8 = .ok (.aload_n 1, 1) := dk_43 (dk_at dksX10_copy_0 8 rfl rfl)
theorem dX10_copy_9 : decode cX10_copy 9 = .ok (.aload_n 0, 1) := dk_42 (dk_at dksX10_copy_0 9 rfl rfl)
theorem dX10_copy_10 : decode cX10_copy 10 = .ok (.getfield 9, 3) := dk_180 0 9 (dk_at dksX10_copy_0 10 rfl rfl)
theorem dX10_copy_13 : decode cX10_copy 13 = .ok (.putfield 9, 3) := dk_181 0 9 (dk_at dksX10_copy_0 13 rfl rfl)
theorem dX10_copy_16 : decode cX10_copy 16 = .ok (.iconst 0, 1) := dk_3 (dk_at dksX10_copy_0 16 rfl rfl)
theorem dX10_copy_17 : decode cX10_copy 17 = .ok (.istore_n 2, 1) := dk_61 (dk_at dksX10_copy_0 17 rfl rfl)
theorem dX10_copy_18 : decode cX10_copy 18 = .ok (.iload_n 2, 1) := dk_28 (dk_at dksX10_copy_0 18 rfl rfl)
theorem dX10_copy_19 : decode cX10_copy 19 = .ok (.aload_n 0, 1) := dk_42 (dk_at dksX10_copy_0 19 rfl rfl)
theorem dX10_copy_20 : decode cX10_copy 20 = .ok (.getfield 15, 3) := dk_180 0 15 (dk_at dksX10_copy_0 20 rfl rfl)
theorem dX10_copy_23 : decode cX10_copy 23 = .ok (.arraylength, 1) := dk_190 (dk_at dksX10_copy_0 23 rfl rfl)
theorem dX10_copy_24 : decode cX10_copy 24 = .ok (.if_icmp .ge 33, 3) := dk_162 0 33 (dk_at dksX10_copy_1 0 rfl rfl)
theorem dX10_copy_27 : decode cX10_copy 27 = .ok (.aload_n 1, 1) := dk_43 (dk_at dksX10_copy_1 3 rfl rfl)
theorem dX10_copy_28 : decode cX10_copy 28 = .ok (.getfield 15, 3) := dk_180 0 15 (dk_at dksX10_copy_1 4 rfl rfl)
theorem dX10_copy_31 : decode cX10_copy 31 = .ok (.iload_n 2, 1) := dk_28 (dk_at dksX10_copy_1 7 rfl rfl)
theorem dX10_copy_32 : decode cX10_copy 32 = .ok (.aload_n 0, 1) := dk_42 (dk_at dksX10_copy_1 8 rfl rfl)
theorem dX10_copy_33 : decode cX10_copy 33 = .ok (.getfield 15, 3) := dk_180 0 15 (dk_at dksX10_copy_1 9 rfl rfl)
theorem dX10_copy_36 : decode cX10_copy 36 = .ok (.iload_n 2, 1) := dk_28 (dk_at dksX10_copy_1 12 rfl rfl)
theorem dX10_copy_37 : decode cX10_copy 37 = .ok (.iaload, 1) := dk_46 (dk_at dksX10_copy_1 13 rfl rfl)
theorem dX10_copy_38 : decode cX10_copy 38 = .ok (.iastore, 1) := dk_79 (dk_at dksX10_copy_1 14 rfl rfl)
theorem dX10_copy_39 : decode cX10_copy 39 = .ok (.aload_n 1, 1) := dk_43 (dk_at dksX10_copy_1 15 rfl rfl)
theorem dX10_copy_40 : decode cX10_copy 40 = .ok (.getfield 19, 3) := dk_180 0 19 (dk_at dksX10_copy_1 16 rfl rfl)
theorem dX10_copy_43 : decode cX10_copy 43 = .ok (.iload_n 2, 1) := dk_28 (dk_at dksX10_copy_1 19 rfl rfl)
theorem dX10_copy_44 : decode cX10_copy 44 = .ok (.aload_n 0, 1) := dk_42 (dk_at dksX10_copy_1 20 rfl rfl)
theorem dX10_copy_45 : decode cX10_copy 45 = .ok (.getfield 19, 3) := dk_180 0 19 (dk_at dksX10_copy_1 21 rfl rfl)
theorem dX10_copy_48 : decode cX10_copy 48 = .ok (.iload_n 2, 1) := dk_28 (dk_at dksX10_copy_2 0 rfl rfl)
theorem dX10_copy_49 : decode cX10_copy 49 = .ok (.iaload, 1) := dk_46 (dk_at dksX10_copy_2 1 rfl rfl)
theorem dX10_copy_50 : decode cX10_copy 50 = .ok (.iastore, 1) := dk_79 (dk_at dksX10_copy_2 2 rfl rfl)
theorem dX10_copy_51 : decode cX10_copy 51 = .ok (.iinc 2 1, 3) := dk_132 2 1 (dk_at dksX10_copy_2 3 rfl rfl)
theorem dX10_copy_54 : decode cX10_copy 54 = .ok (.goto (-36), 3) := dk_167 255 220 (dk_at dksX10_copy_2 6 rfl rfl)
theorem dX10_copy_57 : decode cX10_copy 57 = .ok (.iconst 0, 1) := dk_3 (dk_at dksX10_copy_2 9 rfl rfl)
theorem dX10_copy_58 : decode cX10_copy 58 = .ok (.istore_n 2, 1) := dk_61 (dk_at dksX10_copy_2 10 rfl rfl)
theorem dX10_copy_59 : decode cX10_copy 59 = .ok (.iload_n 2, 1) := dk_28 (dk_at dksX10_copy_2 11 rfl rfl)
theorem dX10_copy_60 : decode cX10_copy 60 = .ok (.bipush 16, 2) := dk_16 16 (dk_at dksX10_copy_2 12 rfl rfl)
theorem dX10_copy_62 : decode cX10_copy 62 = .ok (.if_icmp .ge 21, 3) := dk_162 0 21 (dk_at dksX10_copy_2 14 rfl rfl)
theorem dX10_copy_65 : decode cX10_copy 65 = .ok (.aload_n 1, 1) := dk_43 (dk_at dksX10_copy_2 17 rfl rfl)
theorem dX10_copy_66 : decode cX10_copy 66 = .ok (.getfield 22, 3) := dk_180 0 22 (dk_at dksX10_copy_2 18 rfl rfl)
theorem dX10_copy_69 : decode cX10_copy 69 = .ok (.iload_n 2, 1) := dk_28 (dk_at dksX10_copy_2 21 rfl rfl)
theorem dX10_copy_70 : decode cX10_copy 70 = .ok (.aload_n 0, 1) := dk_42 (dk_at dksX10_copy_2 22 rfl rfl)
theorem dX10_copy_71 : decode cX10_copy 71 = .ok (.getfield 22, 3) := dk_180 0 22 (dk_at dksX10_copy_3 0 rfl rfl)
theorem dX10_copy_74 : decode cX10_copy 74 = .ok (.iload_n 2, 1) := dk_28 (dk_at dksX10_copy_3 3 rfl rfl)
theorem dX10_copy_75 : decode cX10_copy 75 = .ok (.iaload, 1) := dk_46 (dk_at dksX10_copy_3 4 rfl rfl)
theorem dX10_copy_76 : decode cX10_copy 76 = .ok (.iastore, 1) := dk_79 (dk_at dksX10_copy_3 5 rfl rfl)
theorem dX10_copy_77 : decode cX10_copy 77 = .ok (.iinc 2 1, 3) := dk_132 2 1 (dk_at dksX10_copy_3 6 rfl rfl)
theorem dX10_copy_80 : decode cX10_copy 80 = .ok (.goto (-21), 3) := dk_167 255 235 (dk_at dksX10_copy_3 9 rfl rfl)
theorem dX10_copy_83 : decode cX10_copy 83 = .ok (.aload_n 1, 1) := dk_43 (dk_at dksX10_copy_3 12 rfl rfl)
theorem dX10_copy_84 : decode cX10_copy 84 = .ok (.areturn, 1) := dk_176 (dk_at dksX10_copy_3 13 rfl rfl)
abbrev cX10_blanksWay : ByteArray := prog_13_method_16_code
def yX10_blanksWay : MethodName := ⟨RX10, "blanksWay", "(I)V"⟩
def dkwX10_blanksWay_1 : List UInt8 := [185, 0, 91, 1, 0, 192, 0, 27, 182, 0, 95, 62, 42, 29, 182, 0, 98, 167, 255, 229, 177]
abbrev dktX10_blanksWay_1 : List UInt8 := dkwX10_blanksWay_1 ++ []
def dkwX10_blanksWay_0 : List UInt8 := [42, 27, 182, 0, 77, 185, 0, 81, 1, 0, 77, 44, 185, 0, 85, 1, 0, 153, 0, 24, 44]
abbrev dktX10_blanksWay_0 : List UInt8 := dkwX10_blanksWay_0 ++ dktX10_blanksWay_1
theorem dksX10_blanksWay_0 : cX10_blanksWay.data.toList.drop 0 = dktX10_blanksWay_0 := by decide +kernel
theorem dksX10_blanksWay_1 : cX10_blanksWay.data.toList.drop 21 = dktX10_blanksWay_1 := dk_seg dksX10_blanksWay_0 21 rfl rfl
theorem dX10_blanksWay_0 : decode cX10_blanksWay 0 = .ok (.aload_n 0, 1) := dk_42 (dk_at dksX10_blanksWay_0 0 rfl rfl)
theorem dX10_blanksWay_1 : decode cX10_blanksWay 1 = .ok (.iload_n 1, 1) := dk_27 (dk_at dksX10_blanksWay_0 1 rfl rfl)
theorem dX10_blanksWay_2 : decode cX10_blanksWay 2 = .ok (.invokevirtual 77, 3) := dk_182 0 77 (dk_at dksX10_blanksWay_0 2 rfl rfl)
theorem dX10_blanksWay_5 : decode cX10_blanksWay 5 = .ok (.invokeinterface 81 1, 5) := by decide +kernel
theorem dX10_blanksWay_10 : decode cX10_blanksWay 10 = .ok (.astore_n 2, 1) := dk_77 (dk_at dksX10_blanksWay_0 10 rfl rfl)
theorem dX10_blanksWay_11 : decode cX10_blanksWay 11 = .ok (.aload_n 2, 1) := dk_44 (dk_at dksX10_blanksWay_0 11 rfl rfl)
theorem dX10_blanksWay_12 : decode cX10_blanksWay 12 = .ok (.invokeinterface 85 1, 5) := by decide +kernel
theorem dX10_blanksWay_17 : decode cX10_blanksWay 17 = .ok (.ifCond .eq 24, 3) := dk_153 0 24 (dk_at dksX10_blanksWay_0 17 rfl rfl)
theorem dX10_blanksWay_20 : decode cX10_blanksWay 20 = .ok (.aload_n 2, 1) := dk_44 (dk_at dksX10_blanksWay_0 20 rfl rfl)
theorem dX10_blanksWay_21 : decode cX10_blanksWay 21 = .ok (.invokeinterface 91 1, 5) := by decide +kernel
theorem dX10_blanksWay_26 : decode cX10_blanksWay 26 = .ok (.checkcast 27, 3) := dk_192 0 27 (dk_at dksX10_blanksWay_1 5 rfl rfl)
theorem dX10_blanksWay_29 : decode cX10_blanksWay 29 = .ok (.invokevirtual 95, 3) := dk_182 0 95 (dk_at dksX10_blanksWay_1 8 rfl rfl)
theorem dX10_blanksWay_32 : decode cX10_blanksWay 32 = .ok (.istore_n 3, 1) := dk_62 (dk_at dksX10_blanksWay_1 11 rfl rfl)
theorem dX10_blanksWay_33 : decode cX10_blanksWay 33 = .ok (.aload_n 0, 1) := dk_42 (dk_at dksX10_blanksWay_1 12 rfl rfl)
theorem dX10_blanksWay_34 : decode cX10_blanksWay 34 = .ok (.iload_n 3, 1) := dk_29 (dk_at dksX10_blanksWay_1 13 rfl rfl)
theorem dX10_blanksWay_35 : decode cX10_blanksWay 35 = .ok (.invokevirtual 98, 3) := dk_182 0 98 (dk_at dksX10_blanksWay_1 14 rfl rfl)
theorem dX10_blanksWay_38 : decode cX10_blanksWay 38 = .ok (.goto (-27), 3) := dk_167 255 229 (dk_at dksX10_blanksWay_1 17 rfl rfl)
theorem dX10_blanksWay_41 : decode cX10_blanksWay 41 = .ok (.return_, 1) := dk_177 (dk_at dksX10_blanksWay_1 20 rfl rfl)
abbrev cX10_way : ByteArray := prog_13_method_12_code
def yX10_way : MethodName := ⟨RX10, "way", "(I)Ljava/util/List;"⟩
def dkwX10_way_1 : List UInt8 := [184, 0, 46, 184, 0, 49, 185, 0, 53, 2, 0, 87, 29, 184, 0, 46, 62, 167, 255, 229, 44, 176]
abbrev dktX10_way_1 : List UInt8 := dkwX10_way_1 ++ []
def dkwX10_way_0 : List UInt8 := [187, 0, 39, 89, 183, 0, 41, 77, 5, 27, 104, 62, 29, 42, 182, 0, 42, 159, 0, 25, 44, 29]
abbrev dktX10_way_0 : List UInt8 := dkwX10_way_0 ++ dktX10_way_1
theorem dksX10_way_0 : cX10_way.data.toList.drop 0 = dktX10_way_0 := by decide +kernel
theorem dksX10_way_1 : cX10_way.data.toList.drop 22 = dktX10_way_1 := dk_seg dksX10_way_0 22 rfl rfl
theorem dX10_way_0 : decode cX10_way 0 = .ok (.new 39, 3) := dk_187 0 39 (dk_at dksX10_way_0 0 rfl rfl)
theorem dX10_way_3 : decode cX10_way 3 = .ok (.dup, 1) := dk_89 (dk_at dksX10_way_0 3 rfl rfl)
theorem dX10_way_4 : decode cX10_way 4 = .ok (.invokespecial 41, 3) := dk_183 0 41 (dk_at dksX10_way_0 4 rfl rfl)
theorem dX10_way_7 : decode cX10_way 7 = .ok (.astore_n 2, 1) := dk_77 (dk_at dksX10_way_0 7 rfl rfl)
theorem dX10_way_8 : decode cX10_way 8 = .ok (.iconst 2, 1) := dk_5 (dk_at dksX10_way_0 8 rfl rfl)
theorem dX10_way_9 : decode cX10_way 9 = .ok (.iload_n 1, 1) := dk_27 (dk_at dksX10_way_0 9 rfl rfl)
theorem dX10_way_10 : decode cX10_way 10 = .ok (.imul, 1) := dk_104 (dk_at dksX10_way_0 10 rfl rfl)
theorem dX10_way_11 : decode cX10_way 11 = .ok (.istore_n 3, 1) := dk_62 (dk_at dksX10_way_0 11 rfl rfl)
theorem dX10_way_12 : decode cX10_way 12 = .ok (.iload_n 3, 1) := dk_29 (dk_at dksX10_way_0 12 rfl rfl)
theorem dX10_way_13 : decode cX10_way 13 = .ok (.aload_n 0, 1) := dk_42 (dk_at dksX10_way_0 13 rfl rfl)
theorem dX10_way_14 : decode cX10_way 14 = .ok (.invokevirtual 42, 3) := dk_182 0 42 (dk_at dksX10_way_0 14 rfl rfl)
theorem dX10_way_17 : decode cX10_way 17 = .ok (.if_icmp .eq 25, 3) := dk_159 0 25 (dk_at dksX10_way_0 17 rfl rfl)
theorem dX10_way_20 : decode cX10_way 20 = .ok (.aload_n 2, 1) := dk_44 (dk_at dksX10_way_0 20 rfl rfl)
theorem dX10_way_21 : decode cX10_way 21 = .ok (.iload_n 3, 1) := dk_29 (dk_at dksX10_way_0 21 rfl rfl)
theorem dX10_way_22 : decode cX10_way 22 = .ok (.invokestatic 46, 3) := dk_184 0 46 (dk_at dksX10_way_1 0 rfl rfl)
theorem dX10_way_25 : decode cX10_way 25 = .ok (.invokestatic 49, 3) := dk_184 0 49 (dk_at dksX10_way_1 3 rfl rfl)
theorem dX10_way_28 : decode cX10_way 28 = .ok (.invokeinterface 53 2, 5) := by decide +kernel
theorem dX10_way_33 : decode cX10_way 33 = .ok (.pop, 1) := dk_87 (dk_at dksX10_way_1 11 rfl rfl)
theorem dX10_way_34 : decode cX10_way 34 = .ok (.iload_n 3, 1) := dk_29 (dk_at dksX10_way_1 12 rfl rfl)
theorem dX10_way_35 : decode cX10_way 35 = .ok (.invokestatic 46, 3) := dk_184 0 46 (dk_at dksX10_way_1 13 rfl rfl)
theorem dX10_way_38 : decode cX10_way 38 = .ok (.istore_n 3, 1) := dk_62 (dk_at dksX10_way_1 16 rfl rfl)
theorem dX10_way_39 : decode cX10_way 39 = .ok (.goto (-27), 3) := dk_167 255 229 (dk_at dksX10_way_1 17 rfl rfl)
theorem dX10_way_42 : decode cX10_way 42 = .ok (.aload_n 2, 1) := dk_44 (dk_at dksX10_way_1 20 rfl rfl)
theorem dX10_way_43 : decode cX10_way 43 = .ok (.areturn, 1) := dk_176 (dk_at dksX10_way_1 21 rfl rfl)
abbrev cX10_root : ByteArray := prog_13_method_10_code
def yX10_root : MethodName := ⟨RX10, "root", "()I"⟩
def dkwX10_root_0 : List UInt8 := [42, 180, 0, 9, 4, 100, 172]
abbrev dktX10_root_0 : List UInt8 := dkwX10_root_0 ++ []
theorem dksX10_root_0 : cX10_root.data.toList.drop 0 = dktX10_root_0 := by decide +kernel
theorem dX10_root_0 : decode cX10_root 0 = .ok (.aload_n 0, 1) := dk_42 (dk_at dksX10_root_0 0 rfl rfl)
theorem dX10_root_1 : decode cX10_root 1 = .ok (.getfield 9, 3) := dk_180 0 9 (dk_at dksX10_root_0 1 rfl rfl)
theorem dX10_root_4 : decode cX10_root 4 = .ok (.iconst 1, 1) := dk_4 (dk_at dksX10_root_0 4 rfl rfl)
theorem dX10_root_5 : decode cX10_root 5 = .ok (.isub, 1) := dk_100 (dk_at dksX10_root_0 5 rfl rfl)
theorem dX10_root_6 : decode cX10_root 6 = .ok (.ireturn, 1) := dk_172 (dk_at dksX10_root_0 6 rfl rfl)
abbrev cX10_above : ByteArray := prog_13_method_8_code
def yX10_above : MethodName := ⟨RX10, "above", "(I)I"⟩
def dkwX10_above_0 : List UInt8 := [26, 184, 0, 32, 60, 27, 4, 96, 26, 4, 96, 27, 5, 96, 122, 184, 0, 35, 172]
abbrev dktX10_above_0 : List UInt8 := dkwX10_above_0 ++ []
theorem dksX10_above_0 : cX10_above.data.toList.drop 0 = dktX10_above_0 := by decide +kernel
theorem dX10_above_0 : decode cX10_above 0 = .ok (.iload_n 0, 1) := dk_26 (dk_at dksX10_above_0 0 rfl rfl)
theorem dX10_above_1 : decode cX10_above 1 = .ok (.invokestatic 32, 3) := dk_184 0 32 (dk_at dksX10_above_0 1 rfl rfl)
theorem dX10_above_4 : decode cX10_above 4 = .ok (.istore_n 1, 1) := dk_60 (dk_at dksX10_above_0 4 rfl rfl)
theorem dX10_above_5 : decode cX10_above 5 = .ok (.iload_n 1, 1) := dk_27 (dk_at dksX10_above_0 5 rfl rfl)
theorem dX10_above_6 : decode cX10_above 6 = .ok (.iconst 1, 1) := dk_4 (dk_at dksX10_above_0 6 rfl rfl)
theorem dX10_above_7 : decode cX10_above 7 = .ok (.iadd, 1) := dk_96 (dk_at dksX10_above_0 7 rfl rfl)
theorem dX10_above_8 : decode cX10_above 8 = .ok (.iload_n 0, 1) := dk_26 (dk_at dksX10_above_0 8 rfl rfl)
theorem dX10_above_9 : decode cX10_above 9 = .ok (.iconst 1, 1) := dk_4 (dk_at dksX10_above_0 9 rfl rfl)
theorem dX10_above_10 : decode cX10_above 10 = .ok (.iadd, 1) := dk_96 (dk_at dksX10_above_0 10 rfl rfl)
theorem dX10_above_11 : decode cX10_above 11 = .ok (.iload_n 1, 1) := dk_27 (dk_at dksX10_above_0 11 rfl rfl)
theorem dX10_above_12 : decode cX10_above 12 = .ok (.iconst 2, 1) := dk_5 (dk_at dksX10_above_0 12 rfl rfl)
theorem dX10_above_13 : decode cX10_above 13 = .ok (.iadd, 1) := dk_96 (dk_at dksX10_above_0 13 rfl rfl)
theorem dX10_above_14 : decode cX10_above 14 = .ok (.ishr, 1) := dk_122 (dk_at dksX10_above_0 14 rfl rfl)
theorem dX10_above_15 : decode cX10_above 15 = .ok (.invokestatic 35, 3) := dk_184 0 35 (dk_at dksX10_above_0 15 rfl rfl)
theorem dX10_above_18 : decode cX10_above 18 = .ok (.ireturn, 1) := dk_172 (dk_at dksX10_above_0 18 rfl rfl)
abbrev cX10_node : ByteArray := prog_13_method_4_code
def yX10_node : MethodName := ⟨RX10, "node", "(II)I"⟩
def dkwX10_node_0 : List UInt8 := [5, 27, 104, 4, 96, 4, 26, 120, 104, 4, 100, 172]
abbrev dktX10_node_0 : List UInt8 := dkwX10_node_0 ++ []
theorem dksX10_node_0 : cX10_node.data.toList.drop 0 = dktX10_node_0 := by decide +kernel
theorem dX10_node_0 : decode cX10_node 0 = .ok (.iconst 2, 1) := dk_5 (dk_at dksX10_node_0 0 rfl rfl)
theorem dX10_node_1 : decode cX10_node 1 = .ok (.iload_n 1, 1) := dk_27 (dk_at dksX10_node_0 1 rfl rfl)
theorem dX10_node_2 : decode cX10_node 2 = .ok (.imul, 1) := dk_104 (dk_at dksX10_node_0 2 rfl rfl)
theorem dX10_node_3 : decode cX10_node 3 = .ok (.iconst 1, 1) := dk_4 (dk_at dksX10_node_0 3 rfl rfl)
theorem dX10_node_4 : decode cX10_node 4 = .ok (.iadd, 1) := dk_96 (dk_at dksX10_node_0 4 rfl rfl)
theorem dX10_node_5 : decode cX10_node 5 = .ok (.iconst 1, 1) := dk_4 (dk_at dksX10_node_0 5 rfl rfl)
theorem dX10_node_6 : decode cX10_node 6 = .ok (.iload_n 0, 1) := dk_26 (dk_at dksX10_node_0 6 rfl rfl)
theorem dX10_node_7 : decode cX10_node 7 = .ok (.ishl, 1) := dk_120 (dk_at dksX10_node_0 7 rfl rfl)
theorem dX10_node_8 : decode cX10_node 8 = .ok (.imul, 1) := dk_104 (dk_at dksX10_node_0 8 rfl rfl)
theorem dX10_node_9 : decode cX10_node 9 = .ok (.iconst 1, 1) := dk_4 (dk_at dksX10_node_0 9 rfl rfl)
theorem dX10_node_10 : decode cX10_node 10 = .ok (.isub, 1) := dk_100 (dk_at dksX10_node_0 10 rfl rfl)
theorem dX10_node_11 : decode cX10_node 11 = .ok (.ireturn, 1) := dk_172 (dk_at dksX10_node_0 11 rfl rfl)
abbrev cX10_blanks : ByteArray := prog_13_method_15_code
def yX10_blanks : MethodName := ⟨RX10, "blanks", "(I)V"⟩
def dkwX10_blanks_0 : List UInt8 := [42, 180, 0, 15, 27, 2, 79, 42, 180, 0, 19, 27, 3, 79, 177]
abbrev dktX10_blanks_0 : List UInt8 := dkwX10_blanks_0 ++ []
theorem dksX10_blanks_0 : cX10_blanks.data.toList.drop 0 = dktX10_blanks_0 := by decide +kernel
theorem dX10_blanks_0 : decode cX10_blanks 0 = .ok (.aload_n 0, 1) := dk_42 (dk_at dksX10_blanks_0 0 rfl rfl)
theorem dX10_blanks_1 : decode cX10_blanks 1 = .ok (.getfield 15, 3) := dk_180 0 15 (dk_at dksX10_blanks_0 1 rfl rfl)
theorem dX10_blanks_4 : decode cX10_blanks 4 = .ok (.iload_n 1, 1) := dk_27 (dk_at dksX10_blanks_0 4 rfl rfl)
theorem dX10_blanks_5 : decode cX10_blanks 5 = .ok (.iconst (-1), 1) := dk_2 (dk_at dksX10_blanks_0 5 rfl rfl)
theorem dX10_blanks_6 : decode cX10_blanks 6 = .ok (.iastore, 1) := dk_79 (dk_at dksX10_blanks_0 6 rfl rfl)
theorem dX10_blanks_7 : decode cX10_blanks 7 = .ok (.aload_n 0, 1) := dk_42 (dk_at dksX10_blanks_0 7 rfl rfl)
theorem dX10_blanks_8 : decode cX10_blanks 8 = .ok (.getfield 19, 3) := dk_180 0 19 (dk_at dksX10_blanks_0 8 rfl rfl)
theorem dX10_blanks_11 : decode cX10_blanks 11 = .ok (.iload_n 1, 1) := dk_27 (dk_at dksX10_blanks_0 11 rfl rfl)
theorem dX10_blanks_12 : decode cX10_blanks 12 = .ok (.iconst 0, 1) := dk_3 (dk_at dksX10_blanks_0 12 rfl rfl)
theorem dX10_blanks_13 : decode cX10_blanks 13 = .ok (.iastore, 1) := dk_79 (dk_at dksX10_blanks_0 13 rfl rfl)
theorem dX10_blanks_14 : decode cX10_blanks 14 = .ok (.return_, 1) := dk_177 (dk_at dksX10_blanks_0 14 rfl rfl)
abbrev cX10_removes : ByteArray := prog_13_method_17_code
def yX10_removes : MethodName := ⟨RX10, "removes", "(I)V"⟩
def dkwX10_removes_0 : List UInt8 := [42, 5, 27, 104, 182, 0, 98, 42, 180, 0, 22, 27, 2, 79, 42, 27, 182, 0, 102, 177]
abbrev dktX10_removes_0 : List UInt8 := dkwX10_removes_0 ++ []
theorem dksX10_removes_0 : cX10_removes.data.toList.drop 0 = dktX10_removes_0 := by decide +kernel
theorem dX10_removes_0 : decode cX10_removes 0 = .ok (.aload_n 0, 1) := dk_42 (dk_at dksX10_removes_0 0 rfl rfl)
theorem dX10_removes_1 : decode cX10_removes 1 = .ok (.iconst 2, 1) := dk_5 (dk_at dksX10_removes_0 1 rfl rfl)
theorem dX10_removes_2 : decode cX10_removes 2 = .ok (.iload_n 1, 1) := dk_27 (dk_at dksX10_removes_0 2 rfl rfl)
theorem dX10_removes_3 : decode cX10_removes 3 = .ok (.imul, 1) := dk_104 (dk_at dksX10_removes_0 3 rfl rfl)
theorem dX10_removes_4 : decode cX10_removes 4 = .ok (.invokevirtual 98, 3) := dk_182 0 98 (dk_at dksX10_removes_0 4 rfl rfl)
theorem dX10_removes_7 : decode cX10_removes 7 = .ok (.aload_n 0, 1) := dk_42 (dk_at dksX10_removes_0 7 rfl rfl)
theorem dX10_removes_8 : decode cX10_removes 8 = .ok (.getfield 22, 3) := dk_180 0 22 (dk_at dksX10_removes_0 8 rfl rfl)
theorem dX10_removes_11 : decode cX10_removes 11 = .ok (.iload_n 1, 1) := dk_27 (dk_at dksX10_removes_0 11 rfl rfl)
theorem dX10_removes_12 : decode cX10_removes 12 = .ok (.iconst (-1), 1) := dk_2 (dk_at dksX10_removes_0 12 rfl rfl)
theorem dX10_removes_13 : decode cX10_removes 13 = .ok (.iastore, 1) := dk_79 (dk_at dksX10_removes_0 13 rfl rfl)
theorem dX10_removes_14 : decode cX10_removes 14 = .ok (.aload_n 0, 1) := dk_42 (dk_at dksX10_removes_0 14 rfl rfl)
theorem dX10_removes_15 : decode cX10_removes 15 = .ok (.iload_n 1, 1) := dk_27 (dk_at dksX10_removes_0 15 rfl rfl)
theorem dX10_removes_16 : decode cX10_removes 16 = .ok (.invokevirtual 102, 3) := dk_182 0 102 (dk_at dksX10_removes_0 16 rfl rfl)
theorem dX10_removes_19 : decode cX10_removes 19 = .ok (.return_, 1) := dk_177 (dk_at dksX10_removes_0 19 rfl rfl)
abbrev cX10_halves : ByteArray := prog_13_method_18_code
def yX10_halves : MethodName := ⟨RX10, "halves", "()V"⟩
def dkwX10_halves_5 : List UInt8 := [3, 60, 167, 255, 151, 177]
abbrev dktX10_halves_5 : List UInt8 := dkwX10_halves_5 ++ []
def dkwX10_halves_4 : List UInt8 := [180, 0, 9, 5, 108, 181, 0, 9, 28, 153, 0, 15, 42, 180, 0, 9, 4, 164, 0, 7, 4, 167, 0, 4]
abbrev dktX10_halves_4 : List UInt8 := dkwX10_halves_4 ++ dktX10_halves_5
def dkwX10_halves_3 : List UInt8 := [100, 62, 29, 42, 182, 0, 105, 162, 0, 14, 42, 29, 182, 0, 98, 132, 3, 1, 167, 255, 240, 42, 89]
abbrev dktX10_halves_3 : List UInt8 := dkwX10_halves_3 ++ dktX10_halves_4
def dkwX10_halves_2 : List UInt8 := [160, 0, 7, 4, 167, 0, 4, 3, 61, 132, 3, 1, 167, 255, 225, 28, 153, 0, 39, 42, 180, 0, 9, 4]
abbrev dktX10_halves_2 : List UInt8 := dkwX10_halves_2 ++ dktX10_halves_3
def dkwX10_halves_1 : List UInt8 := [5, 108, 62, 29, 42, 180, 0, 9, 162, 0, 29, 28, 153, 0, 17, 42, 180, 0, 22, 29, 46, 2]
abbrev dktX10_halves_1 : List UInt8 := dkwX10_halves_1 ++ dktX10_halves_2
def dkwX10_halves_0 : List UInt8 := [42, 180, 0, 9, 4, 164, 0, 7, 4, 167, 0, 4, 3, 60, 27, 153, 0, 107, 4, 61, 42, 180, 0, 9]
abbrev dktX10_halves_0 : List UInt8 := dkwX10_halves_0 ++ dktX10_halves_1
theorem dksX10_halves_0 : cX10_halves.data.toList.drop 0 = dktX10_halves_0 := by decide +kernel
theorem dksX10_halves_1 : cX10_halves.data.toList.drop 24 = dktX10_halves_1 := dk_seg dksX10_halves_0 24 rfl rfl
theorem dksX10_halves_2 : cX10_halves.data.toList.drop 46 = dktX10_halves_2 := dk_seg dksX10_halves_1 22 rfl rfl
theorem dksX10_halves_3 : cX10_halves.data.toList.drop 70 = dktX10_halves_3 := dk_seg dksX10_halves_2 24 rfl rfl
theorem dksX10_halves_4 : cX10_halves.data.toList.drop 93 = dktX10_halves_4 := dk_seg dksX10_halves_3 23 rfl rfl
theorem dksX10_halves_5 : cX10_halves.data.toList.drop 117 = dktX10_halves_5 := dk_seg dksX10_halves_4 24 rfl rfl
theorem dX10_halves_0 : decode cX10_halves 0 = .ok (.aload_n 0, 1) := dk_42 (dk_at dksX10_halves_0 0 rfl rfl)
theorem dX10_halves_1 : decode cX10_halves 1 = .ok (.getfield 9, 3) := dk_180 0 9 (dk_at dksX10_halves_0 1 rfl rfl)
theorem dX10_halves_4 : decode cX10_halves 4 = .ok (.iconst 1, 1) := dk_4 (dk_at dksX10_halves_0 4 rfl rfl)
theorem dX10_halves_5 : decode cX10_halves 5 = .ok (.if_icmp .le 7, 3) := dk_164 0 7 (dk_at dksX10_halves_0 5 rfl rfl)
theorem dX10_halves_8 : decode cX10_halves 8 = .ok (.iconst 1, 1) := dk_4 (dk_at dksX10_halves_0 8 rfl rfl)
theorem dX10_halves_9 : decode cX10_halves 9 = .ok (.goto 4, 3) := dk_167 0 4 (dk_at dksX10_halves_0 9 rfl rfl)
theorem dX10_halves_12 : decode cX10_halves 12 = .ok (.iconst 0, 1) := dk_3 (dk_at dksX10_halves_0 12 rfl rfl)
theorem dX10_halves_13 : decode cX10_halves 13 = .ok (.istore_n 1, 1) := dk_60 (dk_at dksX10_halves_0 13 rfl rfl)
theorem dX10_halves_14 : decode cX10_halves 14 = .ok (.iload_n 1, 1) := dk_27 (dk_at dksX10_halves_0 14 rfl rfl)
theorem dX10_halves_15 : decode cX10_halves 15 = .ok (.ifCond .eq 107, 3) := dk_153 0 107 (dk_at dksX10_halves_0 15 rfl rfl)
theorem dX10_halves_18 : decode cX10_halves 18 = .ok (.iconst 1, 1) := dk_4 (dk_at dksX10_halves_0 18 rfl rfl)
theorem dX10_halves_19 : decode cX10_halves 19 = .ok (.istore_n 2, 1) := dk_61 (dk_at dksX10_halves_0 19 rfl rfl)
theorem dX10_halves_20 : decode cX10_halves 20 = .ok (.aload_n 0, 1) := dk_42 (dk_at dksX10_halves_0 20 rfl rfl)
theorem dX10_halves_21 : decode cX10_halves 21 = .ok (.getfield 9, 3) := dk_180 0 9 (dk_at dksX10_halves_0 21 rfl rfl)
theorem dX10_halves_24 : decode cX10_halves 24 = .ok (.iconst 2, 1) := dk_5 (dk_at dksX10_halves_1 0 rfl rfl)
theorem dX10_halves_25 : decode cX10_halves 25 = .ok (.idiv, 1) := dk_108 (dk_at dksX10_halves_1 1 rfl rfl)
theorem dX10_halves_26 : decode cX10_halves 26 = .ok (.istore_n 3, 1) := dk_62 (dk_at dksX10_halves_1 2 rfl rfl)
theorem dX10_halves_27 : decode cX10_halves 27 = .ok (.iload_n 3, 1) := dk_29 (dk_at dksX10_halves_1 3 rfl rfl)
theorem dX10_halves_28 : decode cX10_halves 28 = .ok (.aload_n 0, 1) := dk_42 (dk_at dksX10_halves_1 4 rfl rfl)
theorem dX10_halves_29 : decode cX10_halves 29 = .ok (.getfield 9, 3) := dk_180 0 9 (dk_at dksX10_halves_1 5 rfl rfl)
theorem dX10_halves_32 : decode cX10_halves 32 = .ok (.if_icmp .ge 29, 3) := dk_162 0 29 (dk_at dksX10_halves_1 8 rfl rfl)
theorem dX10_halves_35 : decode cX10_halves 35 = .ok (.iload_n 2, 1) := dk_28 (dk_at dksX10_halves_1 11 rfl rfl)
theorem dX10_halves_36 : decode cX10_halves 36 = .ok (.ifCond .eq 17, 3) := dk_153 0 17 (dk_at dksX10_halves_1 12 rfl rfl)
theorem dX10_halves_39 : decode cX10_halves 39 = .ok (.aload_n 0, 1) := dk_42 (dk_at dksX10_halves_1 15 rfl rfl)
theorem dX10_halves_40 : decode cX10_halves 40 = .ok (.getfield 22, 3) := dk_180 0 22 (dk_at dksX10_halves_1 16 rfl rfl)
theorem dX10_halves_43 : decode cX10_halves 43 = .ok (.iload_n 3, 1) := dk_29 (dk_at dksX10_halves_1 19 rfl rfl)
theorem dX10_halves_44 : decode cX10_halves 44 = .ok (.iaload, 1) := dk_46 (dk_at dksX10_halves_1 20 rfl rfl)
theorem dX10_halves_45 : decode cX10_halves 45 = .ok (.iconst (-1), 1) := dk_2 (dk_at dksX10_halves_1 21 rfl rfl)
theorem dX10_halves_46 : decode cX10_halves 46 = .ok (.if_icmp .ne 7, 3) := dk_160 0 7 (dk_at dksX10_halves_2 0 rfl rfl)
theorem dX10_halves_49 : decode cX10_halves 49 = .ok (.iconst 1, 1) := dk_4 (dk_at dksX10_halves_2 3 rfl rfl)
theorem dX10_halves_50 : decode cX10_halves 50 = .ok (.goto 4, 3) := dk_167 0 4 (dk_at dksX10_halves_2 4 rfl rfl)
theorem dX10_halves_53 : decode cX10_halves 53 = .ok (.iconst 0, 1) := dk_3 (dk_at dksX10_halves_2 7 rfl rfl)
theorem dX10_halves_54 : decode cX10_halves 54 = .ok (.istore_n 2, 1) := dk_61 (dk_at dksX10_halves_2 8 rfl rfl)
theorem dX10_halves_55 : decode cX10_halves 55 = .ok (.iinc 3 1, 3) := dk_132 3 1 (dk_at dksX10_halves_2 9 rfl rfl)
theorem dX10_halves_58 : decode cX10_halves 58 = .ok (.goto (-31), 3) := dk_167 255 225 (dk_at dksX10_halves_2 12 rfl rfl)
theorem dX10_halves_61 : decode cX10_halves 61 = .ok (.iload_n 2, 1) := dk_28 (dk_at dksX10_halves_2 15 rfl rfl)
theorem dX10_halves_62 : decode cX10_halves 62 = .ok (.ifCond .eq 39, 3) := dk_153 0 39 (dk_at dksX10_halves_2 16 rfl rfl)
theorem dX10_halves_65 : decode cX10_halves 65 = .ok (.aload_n 0, 1) := dk_42 (dk_at dksX10_halves_2 19 rfl rfl)
theorem dX10_halves_66 : decode cX10_halves 66 = .ok (.getfield 9, 3) := dk_180 0 9 (dk_at dksX10_halves_2 20 rfl rfl)
theorem dX10_halves_69 : decode cX10_halves 69 = .ok (.iconst 1, 1) := dk_4 (dk_at dksX10_halves_2 23 rfl rfl)
theorem dX10_halves_70 : decode cX10_halves 70 = .ok (.isub, 1) := dk_100 (dk_at dksX10_halves_3 0 rfl rfl)
theorem dX10_halves_71 : decode cX10_halves 71 = .ok (.istore_n 3, 1) := dk_62 (dk_at dksX10_halves_3 1 rfl rfl)
theorem dX10_halves_72 : decode cX10_halves 72 = .ok (.iload_n 3, 1) := dk_29 (dk_at dksX10_halves_3 2 rfl rfl)
theorem dX10_halves_73 : decode cX10_halves 73 = .ok (.aload_n 0, 1) := dk_42 (dk_at dksX10_halves_3 3 rfl rfl)
theorem dX10_halves_74 : decode cX10_halves 74 = .ok (.invokevirtual 105, 3) := dk_182 0 105 (dk_at dksX10_halves_3 4 rfl rfl)
theorem dX10_halves_77 : decode cX10_halves 77 = .ok (.if_icmp .ge 14, 3) := dk_162 0 14 (dk_at dksX10_halves_3 7 rfl rfl)
theorem dX10_halves_80 : decode cX10_halves 80 = .ok (.aload_n 0, 1) := dk_42 (dk_at dksX10_halves_3 10 rfl rfl)
theorem dX10_halves_81 : decode cX10_halves 81 = .ok (.iload_n 3, 1) := dk_29 (dk_at dksX10_halves_3 11 rfl rfl)
theorem dX10_halves_82 : decode cX10_halves 82 = .ok (.invokevirtual 98, 3) := dk_182 0 98 (dk_at dksX10_halves_3 12 rfl rfl)
theorem dX10_halves_85 : decode cX10_halves 85 = .ok (.iinc 3 1, 3) := dk_132 3 1 (dk_at dksX10_halves_3 15 rfl rfl)
theorem dX10_halves_88 : decode cX10_halves 88 = .ok (.goto (-16), 3) := dk_167 255 240 (dk_at dksX10_halves_3 18 rfl rfl)
theorem dX10_halves_91 : decode cX10_halves 91 = .ok (.aload_n 0, 1) := dk_42 (dk_at dksX10_halves_3 21 rfl rfl)
theorem dX10_halves_92 : decode cX10_halves 92 = .ok (.dup, 1) := dk_89 (dk_at dksX10_halves_3 22 rfl rfl)
theorem dX10_halves_93 : decode cX10_halves 93 = .ok (.getfield 9, 3) := dk_180 0 9 (dk_at dksX10_halves_4 0 rfl rfl)
theorem dX10_halves_96 : decode cX10_halves 96 = .ok (.iconst 2, 1) := dk_5 (dk_at dksX10_halves_4 3 rfl rfl)
theorem dX10_halves_97 : decode cX10_halves 97 = .ok (.idiv, 1) := dk_108 (dk_at dksX10_halves_4 4 rfl rfl)
theorem dX10_halves_98 : decode cX10_halves 98 = .ok (.putfield 9, 3) := dk_181 0 9 (dk_at dksX10_halves_4 5 rfl rfl)
theorem dX10_halves_101 : decode cX10_halves 101 = .ok (.iload_n 2, 1) := dk_28 (dk_at dksX10_halves_4 8 rfl rfl)
theorem dX10_halves_102 : decode cX10_halves 102 = .ok (.ifCond .eq 15, 3) := dk_153 0 15 (dk_at dksX10_halves_4 9 rfl rfl)
theorem dX10_halves_105 : decode cX10_halves 105 = .ok (.aload_n 0, 1) := dk_42 (dk_at dksX10_halves_4 12 rfl rfl)
theorem dX10_halves_106 : decode cX10_halves 106 = .ok (.getfield 9, 3) := dk_180 0 9 (dk_at dksX10_halves_4 13 rfl rfl)
theorem dX10_halves_109 : decode cX10_halves 109 = .ok (.iconst 1, 1) := dk_4 (dk_at dksX10_halves_4 16 rfl rfl)
theorem dX10_halves_110 : decode cX10_halves 110 = .ok (.if_icmp .le 7, 3) := dk_164 0 7 (dk_at dksX10_halves_4 17 rfl rfl)
theorem dX10_halves_113 : decode cX10_halves 113 = .ok (.iconst 1, 1) := dk_4 (dk_at dksX10_halves_4 20 rfl rfl)
theorem dX10_halves_114 : decode cX10_halves 114 = .ok (.goto 4, 3) := dk_167 0 4 (dk_at dksX10_halves_4 21 rfl rfl)
theorem dX10_halves_117 : decode cX10_halves 117 = .ok (.iconst 0, 1) := dk_3 (dk_at dksX10_halves_5 0 rfl rfl)
theorem dX10_halves_118 : decode cX10_halves 118 = .ok (.istore_n 1, 1) := dk_60 (dk_at dksX10_halves_5 1 rfl rfl)
theorem dX10_halves_119 : decode cX10_halves 119 = .ok (.goto (-105), 3) := dk_167 255 151 (dk_at dksX10_halves_5 2 rfl rfl)
theorem dX10_halves_122 : decode cX10_halves 122 = .ok (.return_, 1) := dk_177 (dk_at dksX10_halves_5 5 rfl rfl)
abbrev cX10_adds : ByteArray := prog_13_method_19_code
def yX10_adds : MethodName := ⟨RX10, "adds", "(II)I"⟩
def dkwX10_adds_5 : List UInt8 := [182, 0, 63, 153, 0, 7, 3, 167, 0, 6, 4, 29, 120, 128, 79, 167, 255, 205, 29, 172]
abbrev dktX10_adds_5 : List UInt8 := dkwX10_adds_5 ++ []
def dkwX10_adds_4 : List UInt8 := [185, 0, 91, 1, 0, 192, 0, 27, 182, 0, 95, 54, 5, 42, 180, 0, 19, 21, 5, 92, 46, 42, 21, 5]
abbrev dktX10_adds_4 : List UInt8 := dkwX10_adds_4 ++ dktX10_adds_5
def dkwX10_adds_3 : List UInt8 := [182, 0, 77, 185, 0, 81, 1, 0, 58, 4, 25, 4, 185, 0, 85, 1, 0, 153, 0, 47, 25, 4]
abbrev dktX10_adds_3 : List UInt8 := dkwX10_adds_3 ++ dktX10_adds_4
def dkwX10_adds_2 : List UInt8 := [180, 0, 9, 181, 0, 9, 42, 180, 0, 22, 29, 27, 79, 42, 180, 0, 15, 5, 29, 104, 28, 79, 42, 29]
abbrev dktX10_adds_2 : List UInt8 := dkwX10_adds_2 ++ dktX10_adds_3
def dkwX10_adds_1 : List UInt8 := [167, 255, 235, 42, 29, 42, 180, 0, 9, 160, 0, 12, 5, 42, 180, 0, 9, 104, 167, 0, 7, 42]
abbrev dktX10_adds_1 : List UInt8 := dkwX10_adds_1 ++ dktX10_adds_2
def dkwX10_adds_0 : List UInt8 := [3, 62, 29, 42, 180, 0, 9, 162, 0, 19, 42, 180, 0, 22, 29, 46, 2, 159, 0, 9, 132, 3, 1]
abbrev dktX10_adds_0 : List UInt8 := dkwX10_adds_0 ++ dktX10_adds_1
theorem dksX10_adds_0 : cX10_adds.data.toList.drop 0 = dktX10_adds_0 := by decide +kernel
theorem dksX10_adds_1 : cX10_adds.data.toList.drop 23 = dktX10_adds_1 := dk_seg dksX10_adds_0 23 rfl rfl
theorem dksX10_adds_2 : cX10_adds.data.toList.drop 45 = dktX10_adds_2 := dk_seg dksX10_adds_1 22 rfl rfl
theorem dksX10_adds_3 : cX10_adds.data.toList.drop 69 = dktX10_adds_3 := dk_seg dksX10_adds_2 24 rfl rfl
theorem dksX10_adds_4 : cX10_adds.data.toList.drop 91 = dktX10_adds_4 := dk_seg dksX10_adds_3 22 rfl rfl
theorem dksX10_adds_5 : cX10_adds.data.toList.drop 115 = dktX10_adds_5 := dk_seg dksX10_adds_4 24 rfl rfl
theorem dX10_adds_0 : decode cX10_adds 0 = .ok (.iconst 0, 1) := dk_3 (dk_at dksX10_adds_0 0 rfl rfl)
theorem dX10_adds_1 : decode cX10_adds 1 = .ok (.istore_n 3, 1) := dk_62 (dk_at dksX10_adds_0 1 rfl rfl)
theorem dX10_adds_2 : decode cX10_adds 2 = .ok (.iload_n 3, 1) := dk_29 (dk_at dksX10_adds_0 2 rfl rfl)
theorem dX10_adds_3 : decode cX10_adds 3 = .ok (.aload_n 0, 1) := dk_42 (dk_at dksX10_adds_0 3 rfl rfl)
theorem dX10_adds_4 : decode cX10_adds 4 = .ok (.getfield 9, 3) := dk_180 0 9 (dk_at dksX10_adds_0 4 rfl rfl)
theorem dX10_adds_7 : decode cX10_adds 7 = .ok (.if_icmp .ge 19, 3) := dk_162 0 19 (dk_at dksX10_adds_0 7 rfl rfl)
theorem dX10_adds_10 : decode cX10_adds 10 = .ok (.aload_n 0, 1) := dk_42 (dk_at dksX10_adds_0 10 rfl rfl)
theorem dX10_adds_11 : decode cX10_adds 11 = .ok (.getfield 22, 3) := dk_180 0 22 (dk_at dksX10_adds_0 11 rfl rfl)
theorem dX10_adds_14 : decode cX10_adds 14 = .ok (.iload_n 3, 1) := dk_29 (dk_at dksX10_adds_0 14 rfl rfl)
theorem dX10_adds_15 : decode cX10_adds 15 = .ok (.iaload, 1) := dk_46 (dk_at dksX10_adds_0 15 rfl rfl)
theorem dX10_adds_16 : decode cX10_adds 16 = .ok (.iconst (-1), 1) := dk_2 (dk_at dksX10_adds_0 16 rfl rfl)
theorem dX10_adds_17 : decode cX10_adds 17 = .ok (.if_icmp .eq 9, 3) := dk_159 0 9 (dk_at dksX10_adds_0 17 rfl rfl)
theorem dX10_adds_20 : decode cX10_adds 20 = .ok (.iinc 3 1, 3) := dk_132 3 1 (dk_at dksX10_adds_0 20 rfl rfl)
theorem dX10_adds_23 : decode cX10_adds 23 = .ok (.goto (-21), 3) := dk_167 255 235 (dk_at dksX10_adds_1 0 rfl rfl)
theorem dX10_adds_26 : decode cX10_adds 26 = .ok (.aload_n 0, 1) := dk_42 (dk_at dksX10_adds_1 3 rfl rfl)
theorem dX10_adds_27 : decode cX10_adds 27 = .ok (.iload_n 3, 1) := dk_29 (dk_at dksX10_adds_1 4 rfl rfl)
theorem dX10_adds_28 : decode cX10_adds 28 = .ok (.aload_n 0, 1) := dk_42 (dk_at dksX10_adds_1 5 rfl rfl)
theorem dX10_adds_29 : decode cX10_adds 29 = .ok (.getfield 9, 3) := dk_180 0 9 (dk_at dksX10_adds_1 6 rfl rfl)
theorem dX10_adds_32 : decode cX10_adds 32 = .ok (.if_icmp .ne 12, 3) := dk_160 0 12 (dk_at dksX10_adds_1 9 rfl rfl)
theorem dX10_adds_35 : decode cX10_adds 35 = .ok (.iconst 2, 1) := dk_5 (dk_at dksX10_adds_1 12 rfl rfl)
theorem dX10_adds_36 : decode cX10_adds 36 = .ok (.aload_n 0, 1) := dk_42 (dk_at dksX10_adds_1 13 rfl rfl)
theorem dX10_adds_37 : decode cX10_adds 37 = .ok (.getfield 9, 3) := dk_180 0 9 (dk_at dksX10_adds_1 14 rfl rfl)
theorem dX10_adds_40 : decode cX10_adds 40 = .ok (.imul, 1) := dk_104 (dk_at dksX10_adds_1 17 rfl rfl)
theorem dX10_adds_41 : decode cX10_adds 41 = .ok (.goto 7, 3) := dk_167 0 7 (dk_at dksX10_adds_1 18 rfl rfl)
theorem dX10_adds_44 : decode cX10_adds 44 = .ok (.aload_n 0, 1) := dk_42 (dk_at dksX10_adds_1 21 rfl rfl)
theorem dX10_adds_45 : decode cX10_adds 45 = .ok (.getfield 9, 3) := dk_180 0 9 (dk_at dksX10_adds_2 0 rfl rfl)
theorem dX10_adds_48 : decode cX10_adds 48 = .ok (.putfield 9, 3) := dk_181 0 9 (dk_at dksX10_adds_2 3 rfl rfl)
theorem dX10_adds_51 : decode cX10_adds 51 = .ok (.aload_n 0, 1) := dk_42 (dk_at dksX10_adds_2 6 rfl rfl)
theorem dX10_adds_52 : decode cX10_adds 52 = .ok (.getfield 22, 3) := dk_180 0 22 (dk_at dksX10_adds_2 7 rfl rfl)
theorem dX10_adds_55 : decode cX10_adds 55 = .ok (.iload_n 3, 1) := dk_29 (dk_at dksX10_adds_2 10 rfl rfl)
theorem dX10_adds_56 : decode cX10_adds 56 = .ok (.iload_n 1, 1) := dk_27 (dk_at dksX10_adds_2 11 rfl rfl)
theorem dX10_adds_57 : decode cX10_adds 57 = .ok (.iastore, 1) := dk_79 (dk_at dksX10_adds_2 12 rfl rfl)
theorem dX10_adds_58 : decode cX10_adds 58 = .ok (.aload_n 0, 1) := dk_42 (dk_at dksX10_adds_2 13 rfl rfl)
theorem dX10_adds_59 : decode cX10_adds 59 = .ok (.getfield 15, 3) := dk_180 0 15 (dk_at dksX10_adds_2 14 rfl rfl)
theorem dX10_adds_62 : decode cX10_adds 62 = .ok (.iconst 2, 1) := dk_5 (dk_at dksX10_adds_2 17 rfl rfl)
theorem dX10_adds_63 : decode cX10_adds 63 = .ok (.iload_n 3, 1) := dk_29 (dk_at dksX10_adds_2 18 rfl rfl)
theorem dX10_adds_64 : decode cX10_adds 64 = .ok (.imul, 1) := dk_104 (dk_at dksX10_adds_2 19 rfl rfl)
theorem dX10_adds_65 : decode cX10_adds 65 = .ok (.iload_n 2, 1) := dk_28 (dk_at dksX10_adds_2 20 rfl rfl)
theorem dX10_adds_66 : decode cX10_adds 66 = .ok (.iastore, 1) := dk_79 (dk_at dksX10_adds_2 21 rfl rfl)
theorem dX10_adds_67 : decode cX10_adds 67 = .ok (.aload_n 0, 1) := dk_42 (dk_at dksX10_adds_2 22 rfl rfl)
theorem dX10_adds_68 : decode cX10_adds 68 = .ok (.iload_n 3, 1) := dk_29 (dk_at dksX10_adds_2 23 rfl rfl)
theorem dX10_adds_69 : decode cX10_adds 69 = .ok (.invokevirtual 77, 3) := dk_182 0 77 (dk_at dksX10_adds_3 0 rfl rfl)
theorem dX10_adds_72 : decode cX10_adds 72 = .ok (.invokeinterface 81 1, 5) := by decide +kernel
theorem dX10_adds_77 : decode cX10_adds 77 = .ok (.astore 4, 2) := dk_58 4 (dk_at dksX10_adds_3 8 rfl rfl)
theorem dX10_adds_79 : decode cX10_adds 79 = .ok (.aload 4, 2) := dk_25 4 (dk_at dksX10_adds_3 10 rfl rfl)
theorem dX10_adds_81 : decode cX10_adds 81 = .ok (.invokeinterface 85 1, 5) := by decide +kernel
theorem dX10_adds_86 : decode cX10_adds 86 = .ok (.ifCond .eq 47, 3) := dk_153 0 47 (dk_at dksX10_adds_3 17 rfl rfl)
theorem dX10_adds_89 : decode cX10_adds 89 = .ok (.aload 4, 2) := dk_25 4 (dk_at dksX10_adds_3 20 rfl rfl)
theorem dX10_adds_91 : decode cX10_adds 91 = .ok (.invokeinterface 91 1, 5) := by decide +kernel
theorem dX10_adds_96 : decode cX10_adds 96 = .ok (.checkcast 27, 3) := dk_192 0 27 (dk_at dksX10_adds_4 5 rfl rfl)
theorem dX10_adds_99 : decode cX10_adds 99 = .ok (.invokevirtual 95, 3) := dk_182 0 95 (dk_at dksX10_adds_4 8 rfl rfl)
theorem dX10_adds_102 : decode cX10_adds 102 = .ok (.istore 5, 2) := dk_54 5 (dk_at dksX10_adds_4 11 rfl rfl)
theorem dX10_adds_104 : decode cX10_adds 104 = .ok (.aload_n 0, 1) := dk_42 (dk_at dksX10_adds_4 13 rfl rfl)
theorem dX10_adds_105 : decode cX10_adds 105 = .ok (.getfield 19, 3) := dk_180 0 19 (dk_at dksX10_adds_4 14 rfl rfl)
theorem dX10_adds_108 : decode cX10_adds 108 = .ok (.iload 5, 2) := dk_21 5 (dk_at dksX10_adds_4 17 rfl rfl)
theorem dX10_adds_110 : decode cX10_adds 110 = .ok (.dup2, 1) := dk_92 (dk_at dksX10_adds_4 19 rfl rfl)
theorem dX10_adds_111 : decode cX10_adds 111 = .ok (.iaload, 1) := dk_46 (dk_at dksX10_adds_4 20 rfl rfl)
theorem dX10_adds_112 : decode cX10_adds 112 = .ok (.aload_n 0, 1) := dk_42 (dk_at dksX10_adds_4 21 rfl rfl)
theorem dX10_adds_113 : decode cX10_adds 113 = .ok (.iload 5, 2) := dk_21 5 (dk_at dksX10_adds_4 22 rfl rfl)
theorem dX10_adds_115 : decode cX10_adds 115 = .ok (.invokevirtual 63, 3) := dk_182 0 63 (dk_at dksX10_adds_5 0 rfl rfl)
theorem dX10_adds_118 : decode cX10_adds 118 = .ok (.ifCond .eq 7, 3) := dk_153 0 7 (dk_at dksX10_adds_5 3 rfl rfl)
theorem dX10_adds_121 : decode cX10_adds 121 = .ok (.iconst 0, 1) := dk_3 (dk_at dksX10_adds_5 6 rfl rfl)
theorem dX10_adds_122 : decode cX10_adds 122 = .ok (.goto 6, 3) := dk_167 0 6 (dk_at dksX10_adds_5 7 rfl rfl)
theorem dX10_adds_125 : decode cX10_adds 125 = .ok (.iconst 1, 1) := dk_4 (dk_at dksX10_adds_5 10 rfl rfl)
theorem dX10_adds_126 : decode cX10_adds 126 = .ok (.iload_n 3, 1) := dk_29 (dk_at dksX10_adds_5 11 rfl rfl)
theorem dX10_adds_127 : decode cX10_adds 127 = .ok (.ishl, 1) := dk_120 (dk_at dksX10_adds_5 12 rfl rfl)
theorem dX10_adds_128 : decode cX10_adds 128 = .ok (.ior, 1) := dk_128 (dk_at dksX10_adds_5 13 rfl rfl)
theorem dX10_adds_129 : decode cX10_adds 129 = .ok (.iastore, 1) := dk_79 (dk_at dksX10_adds_5 14 rfl rfl)
theorem dX10_adds_130 : decode cX10_adds 130 = .ok (.goto (-51), 3) := dk_167 255 205 (dk_at dksX10_adds_5 15 rfl rfl)
theorem dX10_adds_133 : decode cX10_adds 133 = .ok (.iload_n 3, 1) := dk_29 (dk_at dksX10_adds_5 18 rfl rfl)
theorem dX10_adds_134 : decode cX10_adds 134 = .ok (.ireturn, 1) := dk_172 (dk_at dksX10_adds_5 19 rfl rfl)
abbrev cX10_left : ByteArray := prog_13_method_6_code
def yX10_left : MethodName := ⟨RX10, "left", "(I)I"⟩
def dkwX10_left_0 : List UInt8 := [26, 4, 26, 184, 0, 32, 4, 100, 120, 100, 172]
abbrev dktX10_left_0 : List UInt8 := dkwX10_left_0 ++ []
theorem dksX10_left_0 : cX10_left.data.toList.drop 0 = dktX10_left_0 := by decide +kernel
theorem dX10_left_0 : decode cX10_left 0 = .ok (.iload_n 0, 1) := dk_26 (dk_at dksX10_left_0 0 rfl rfl)
theorem dX10_left_1 : decode cX10_left 1 = .ok (.iconst 1, 1) := dk_4 (dk_at dksX10_left_0 1 rfl rfl)
theorem dX10_left_2 : decode cX10_left 2 = .ok (.iload_n 0, 1) := dk_26 (dk_at dksX10_left_0 2 rfl rfl)
theorem dX10_left_3 : decode cX10_left 3 = .ok (.invokestatic 32, 3) := dk_184 0 32 (dk_at dksX10_left_0 3 rfl rfl)
theorem dX10_left_6 : decode cX10_left 6 = .ok (.iconst 1, 1) := dk_4 (dk_at dksX10_left_0 6 rfl rfl)
theorem dX10_left_7 : decode cX10_left 7 = .ok (.isub, 1) := dk_100 (dk_at dksX10_left_0 7 rfl rfl)
theorem dX10_left_8 : decode cX10_left 8 = .ok (.ishl, 1) := dk_120 (dk_at dksX10_left_0 8 rfl rfl)
theorem dX10_left_9 : decode cX10_left 9 = .ok (.isub, 1) := dk_100 (dk_at dksX10_left_0 9 rfl rfl)
theorem dX10_left_10 : decode cX10_left 10 = .ok (.ireturn, 1) := dk_172 (dk_at dksX10_left_0 10 rfl rfl)
abbrev cX10_right : ByteArray := prog_13_method_7_code
def yX10_right : MethodName := ⟨RX10, "right", "(I)I"⟩
def dkwX10_right_0 : List UInt8 := [26, 4, 26, 184, 0, 32, 4, 100, 120, 96, 172]
abbrev dktX10_right_0 : List UInt8 := dkwX10_right_0 ++ []
theorem dksX10_right_0 : cX10_right.data.toList.drop 0 = dktX10_right_0 := by decide +kernel
theorem dX10_right_0 : decode cX10_right 0 = .ok (.iload_n 0, 1) := dk_26 (dk_at dksX10_right_0 0 rfl rfl)
theorem dX10_right_1 : decode cX10_right 1 = .ok (.iconst 1, 1) := dk_4 (dk_at dksX10_right_0 1 rfl rfl)
theorem dX10_right_2 : decode cX10_right 2 = .ok (.iload_n 0, 1) := dk_26 (dk_at dksX10_right_0 2 rfl rfl)
theorem dX10_right_3 : decode cX10_right 3 = .ok (.invokestatic 32, 3) := dk_184 0 32 (dk_at dksX10_right_0 3 rfl rfl)
theorem dX10_right_6 : decode cX10_right 6 = .ok (.iconst 1, 1) := dk_4 (dk_at dksX10_right_0 6 rfl rfl)
theorem dX10_right_7 : decode cX10_right 7 = .ok (.isub, 1) := dk_100 (dk_at dksX10_right_0 7 rfl rfl)
theorem dX10_right_8 : decode cX10_right 8 = .ok (.ishl, 1) := dk_120 (dk_at dksX10_right_0 8 rfl rfl)
theorem dX10_right_9 : decode cX10_right 9 = .ok (.iadd, 1) := dk_96 (dk_at dksX10_right_0 9 rfl rfl)
theorem dX10_right_10 : decode cX10_right 10 = .ok (.ireturn, 1) := dk_172 (dk_at dksX10_right_0 10 rfl rfl)
abbrev cX10_cover : ByteArray := prog_13_method_13_code
def yX10_cover : MethodName := ⟨RX10, "cover", "(I)Ljava/util/List;"⟩
def dkwX10_cover_0 : List UInt8 := [187, 0, 39, 89, 183, 0, 41, 77, 42, 27, 44, 182, 0, 59, 44, 176]
abbrev dktX10_cover_0 : List UInt8 := dkwX10_cover_0 ++ []
theorem dksX10_cover_0 : cX10_cover.data.toList.drop 0 = dktX10_cover_0 := by decide +kernel
theorem dX10_cover_0 : decode cX10_cover 0 = .ok (.new 39, 3) := dk_187 0 39 (dk_at dksX10_cover_0 0 rfl rfl)
theorem dX10_cover_3 : decode cX10_cover 3 = .ok (.dup, 1) := dk_89 (dk_at dksX10_cover_0 3 rfl rfl)
theorem dX10_cover_4 : decode cX10_cover 4 = .ok (.invokespecial 41, 3) := dk_183 0 41 (dk_at dksX10_cover_0 4 rfl rfl)
theorem dX10_cover_7 : decode cX10_cover 7 = .ok (.astore_n 2, 1) := dk_77 (dk_at dksX10_cover_0 7 rfl rfl)
theorem dX10_cover_8 : decode cX10_cover 8 = .ok (.aload_n 0, 1) := dk_42 (dk_at dksX10_cover_0 8 rfl rfl)
theorem dX10_cover_9 : decode cX10_cover 9 = .ok (.iload_n 1, 1) := dk_27 (dk_at dksX10_cover_0 9 rfl rfl)
theorem dX10_cover_10 : decode cX10_cover 10 = .ok (.aload_n 2, 1) := dk_44 (dk_at dksX10_cover_0 10 rfl rfl)
theorem dX10_cover_11 : decode cX10_cover 11 = .ok (.invokevirtual 59, 3) := dk_182 0 59 (dk_at dksX10_cover_0 11 rfl rfl)
theorem dX10_cover_14 : decode cX10_cover 14 = .ok (.aload_n 2, 1) := dk_44 (dk_at dksX10_cover_0 14 rfl rfl)
theorem dX10_cover_15 : decode cX10_cover 15 = .ok (.areturn, 1) := dk_176 (dk_at dksX10_cover_0 15 rfl rfl)
abbrev cX10_covers_2 : ByteArray := prog_13_method_14_code
def yX10_covers_2 : MethodName := ⟨RX10, "covers", "(ILjava/util/List;)V"⟩
def dkwX10_covers_2_3 : List UInt8 := [158, 0, 21, 42, 27, 184, 0, 71, 44, 182, 0, 59, 42, 27, 184, 0, 74, 44, 182, 0, 59, 177]
abbrev dktX10_covers_2_3 : List UInt8 := dkwX10_covers_2_3 ++ []
def dkwX10_covers_2_2 : List UInt8 := [184, 0, 49, 185, 0, 53, 2, 0, 87, 132, 3, 1, 167, 255, 219, 167, 0, 28, 27, 184, 0, 32]
abbrev dktX10_covers_2_2 : List UInt8 := dkwX10_covers_2_2 ++ dktX10_covers_2_3
def dkwX10_covers_2_1 : List UInt8 := [180, 0, 9, 162, 0, 35, 42, 180, 0, 19, 27, 46, 29, 184, 0, 67, 153, 0, 16, 44, 5, 29, 104]
abbrev dktX10_covers_2_1 : List UInt8 := dkwX10_covers_2_1 ++ dktX10_covers_2_2
def dkwX10_covers_2_0 : List UInt8 := [42, 27, 182, 0, 63, 154, 0, 59, 44, 27, 184, 0, 49, 185, 0, 53, 2, 0, 87, 3, 62, 29, 42]
abbrev dktX10_covers_2_0 : List UInt8 := dkwX10_covers_2_0 ++ dktX10_covers_2_1
theorem dksX10_covers_2_0 : cX10_covers_2.data.toList.drop 0 = dktX10_covers_2_0 := by decide +kernel
theorem dksX10_covers_2_1 : cX10_covers_2.data.toList.drop 23 = dktX10_covers_2_1 := dk_seg dksX10_covers_2_0 23 rfl rfl
theorem dksX10_covers_2_2 : cX10_covers_2.data.toList.drop 46 = dktX10_covers_2_2 := dk_seg dksX10_covers_2_1 23 rfl rfl
theorem dksX10_covers_2_3 : cX10_covers_2.data.toList.drop 68 = dktX10_covers_2_3 := dk_seg dksX10_covers_2_2 22 rfl rfl
theorem dX10_covers_2_0 : decode cX10_covers_2 0 = .ok (.aload_n 0, 1) := dk_42 (dk_at dksX10_covers_2_0 0 rfl rfl)
theorem dX10_covers_2_1 : decode cX10_covers_2 1 = .ok (.iload_n 1, 1) := dk_27 (dk_at dksX10_covers_2_0 1 rfl rfl)
theorem dX10_covers_2_2 : decode cX10_covers_2 2 = .ok (.invokevirtual 63, 3) := dk_182 0 63 (dk_at dksX10_covers_2_0 2 rfl rfl)
theorem dX10_covers_2_5 : decode cX10_covers_2 5 = .ok (.ifCond .ne 59, 3) := dk_154 0 59 (dk_at dksX10_covers_2_0 5 rfl rfl)
theorem dX10_covers_2_8 : decode cX10_covers_2 8 = .ok (.aload_n 2, 1) := dk_44 (dk_at dksX10_covers_2_0 8 rfl rfl)
theorem dX10_covers_2_9 : decode cX10_covers_2 9 = .ok (.iload_n 1, 1) := dk_27 (dk_at dksX10_covers_2_0 9 rfl rfl)
theorem dX10_covers_2_10 : decode cX10_covers_2 10 = .ok (.invokestatic 49, 3) := dk_184 0 49 (dk_at dksX10_covers_2_0 10 rfl rfl)
theorem dX10_covers_2_13 : decode cX10_covers_2 13 = .ok (.invokeinterface 53 2, 5) := by decide +kernel
theorem dX10_covers_2_18 : decode cX10_covers_2 18 = .ok (.pop, 1) := dk_87 (dk_at dksX10_covers_2_0 18 rfl rfl)
theorem dX10_covers_2_19 : decode cX10_covers_2 19 = .ok (.iconst 0, 1) := dk_3 (dk_at dksX10_covers_2_0 19 rfl rfl)
theorem dX10_covers_2_20 : decode cX10_covers_2 20 = .ok (.istore_n 3, 1) := dk_62 (dk_at dksX10_covers_2_0 20 rfl rfl)
theorem dX10_covers_2_21 : decode cX10_covers_2 21 = .ok (.iload_n 3, 1) := dk_29 (dk_at dksX10_covers_2_0 21 rfl rfl)
theorem dX10_covers_2_22 : decode cX10_covers_2 22 = .ok (.aload_n 0, 1) := dk_42 (dk_at dksX10_covers_2_0 22 rfl rfl)
theorem dX10_covers_2_23 : decode cX10_covers_2 23 = .ok (.getfield 9, 3) := dk_180 0 9 (dk_at dksX10_covers_2_1 0 rfl rfl)
theorem dX10_covers_2_26 : decode cX10_covers_2 26 = .ok (.if_icmp .ge 35, 3) := dk_162 0 35 (dk_at dksX10_covers_2_1 3 rfl rfl)
theorem dX10_covers_2_29 : decode cX10_covers_2 29 = .ok (.aload_n 0, 1) := dk_42 (dk_at dksX10_covers_2_1 6 rfl rfl)
theorem dX10_covers_2_30 : decode cX10_covers_2 30 = .ok (.getfield 19, 3) := dk_180 0 19 (dk_at dksX10_covers_2_1 7 rfl rfl)
theorem dX10_covers_2_33 : decode cX10_covers_2 33 = .ok (.iload_n 1, 1) := dk_27 (dk_at dksX10_covers_2_1 10 rfl rfl)
theorem dX10_covers_2_34 : decode cX10_covers_2 34 = .ok (.iaload, 1) := dk_46 (dk_at dksX10_covers_2_1 11 rfl rfl)
theorem dX10_covers_2_35 : decode cX10_covers_2 35 = .ok (.iload_n 3, 1) := dk_29 (dk_at dksX10_covers_2_1 12 rfl rfl)
theorem dX10_covers_2_36 : decode cX10_covers_2 36 = .ok (.invokestatic 67, 3) := dk_184 0 67 (dk_at dksX10_covers_2_1 13 rfl rfl)
theorem dX10_covers_2_39 : decode cX10_covers_2 39 = .ok (.ifCond .eq 16, 3) := dk_153 0 16 (dk_at dksX10_covers_2_1 16 rfl rfl)
theorem dX10_covers_2_42 : decode cX10_covers_2 42 = .ok (.aload_n 2, 1) := dk_44 (dk_at dksX10_covers_2_1 19 rfl rfl)
theorem dX10_covers_2_43 : decode cX10_covers_2 43 = .ok (.iconst 2, 1) := dk_5 (dk_at dksX10_covers_2_1 20 rfl rfl)
theorem dX10_covers_2_44 : decode cX10_covers_2 44 = .ok (.iload_n 3, 1) := dk_29 (dk_at dksX10_covers_2_1 21 rfl rfl)
theorem dX10_covers_2_45 : decode cX10_covers_2 45 = .ok (.imul, 1) := dk_104 (dk_at dksX10_covers_2_1 22 rfl rfl)
theorem dX10_covers_2_46 : decode cX10_covers_2 46 = .ok (.invokestatic 49, 3) := dk_184 0 49 (dk_at dksX10_covers_2_2 0 rfl rfl)
theorem dX10_covers_2_49 : decode cX10_covers_2 49 = .ok (.invokeinterface 53 2, 5) := by decide +kernel
theorem dX10_covers_2_54 : decode cX10_covers_2 54 = .ok (.pop, 1) := dk_87 (dk_at dksX10_covers_2_2 8 rfl rfl)
theorem dX10_covers_2_55 : decode cX10_covers_2 55 = .ok (.iinc 3 1, 3) := dk_132 3 1 (dk_at dksX10_covers_2_2 9 rfl rfl)
theorem dX10_covers_2_58 : decode cX10_covers_2 58 = .ok (.goto (-37), 3) := dk_167 255 219 (dk_at dksX10_covers_2_2 12 rfl rfl)
theorem dX10_covers_2_61 : decode cX10_covers_2 61 = .ok (.goto 28, 3) := dk_167 0 28 (dk_at dksX10_covers_2_2 15 rfl rfl)
theorem dX10_covers_2_64 : decode cX10_covers_2 64 = .ok (.iload_n 1, 1) := dk_27 (dk_at dksX10_covers_2_2 18 rfl rfl)
theorem dX10_covers_2_65 : decode cX10_covers_2 65 = .ok (.invokestatic 32, 3) := dk_184 0 32 (dk_at dksX10_covers_2_2 19 rfl rfl)
theorem dX10_covers_2_68 : decode cX10_covers_2 68 = .ok (.ifCond .le 21, 3) := dk_158 0 21 (dk_at dksX10_covers_2_3 0 rfl rfl)
theorem dX10_covers_2_71 : decode cX10_covers_2 71 = .ok (.aload_n 0, 1) := dk_42 (dk_at dksX10_covers_2_3 3 rfl rfl)
theorem dX10_covers_2_72 : decode cX10_covers_2 72 = .ok (.iload_n 1, 1) := dk_27 (dk_at dksX10_covers_2_3 4 rfl rfl)
theorem dX10_covers_2_73 : decode cX10_covers_2 73 = .ok (.invokestatic 71, 3) := dk_184 0 71 (dk_at dksX10_covers_2_3 5 rfl rfl)
theorem dX10_covers_2_76 : decode cX10_covers_2 76 = .ok (.aload_n 2, 1) := dk_44 (dk_at dksX10_covers_2_3 8 rfl rfl)
theorem dX10_covers_2_77 : decode cX10_covers_2 77 = .ok (.invokevirtual 59, 3) := dk_182 0 59 (dk_at dksX10_covers_2_3 9 rfl rfl)
theorem dX10_covers_2_80 : decode cX10_covers_2 80 = .ok (.aload_n 0, 1) := dk_42 (dk_at dksX10_covers_2_3 12 rfl rfl)
theorem dX10_covers_2_81 : decode cX10_covers_2 81 = .ok (.iload_n 1, 1) := dk_27 (dk_at dksX10_covers_2_3 13 rfl rfl)
theorem dX10_covers_2_82 : decode cX10_covers_2 82 = .ok (.invokestatic 74, 3) := dk_184 0 74 (dk_at dksX10_covers_2_3 14 rfl rfl)
theorem dX10_covers_2_85 : decode cX10_covers_2 85 = .ok (.aload_n 2, 1) := dk_44 (dk_at dksX10_covers_2_3 17 rfl rfl)
theorem dX10_covers_2_86 : decode cX10_covers_2 86 = .ok (.invokevirtual 59, 3) := dk_182 0 59 (dk_at dksX10_covers_2_3 18 rfl rfl)
theorem dX10_covers_2_89 : decode cX10_covers_2 89 = .ok (.return_, 1) := dk_177 (dk_at dksX10_covers_2_3 21 rfl rfl)
theorem q123 : (Jvm.Cond.initialized "Keygrove$Tree") ∈ lw_all := lw_g (lw_at lw_m1 47 rfl) rfl
theorem q744 : (Jvm.Cond.selects "Keygrove$Tree" ({ cls := "java/lang/Object", name := "getClass", desc := "()Ljava/lang/Class;" } : Jvm.MethodName) ({ cls := "java/lang/Object", name := "getClass", desc := "()Ljava/lang/Class;" } : Jvm.MethodName)) ∈ lw_all := lw_g (lw_at lw_m3 188 rfl) rfl
theorem q1141 : (Jvm.Cond.instanceMethod ({ cls := "Keygrove$Tree", name := "nodes", desc := "()I" } : Jvm.MethodName)) ∈ lw_all := lw_g (lw_at lw_m5 105 rfl) rfl
theorem q1142 : (Jvm.Cond.selects "Keygrove$Tree" ({ cls := "Keygrove$Tree", name := "nodes", desc := "()I" } : Jvm.MethodName) ({ cls := "Keygrove$Tree", name := "nodes", desc := "()I" } : Jvm.MethodName)) ∈ lw_all := lw_g (lw_at lw_m5 106 rfl) rfl
theorem q1143 : (Jvm.Cond.code ({ cls := "Keygrove$Tree", name := "nodes", desc := "()I" } : Jvm.MethodName) prog_13_method_3_code (1 : Nat) (Option.some Jvm.ClassFile.FieldType.int)) ∈ lw_all := lw_g (lw_at lw_m5 107 rfl) rfl
theorem q1145 : (Jvm.Cond.instanceMethod ({ cls := "Keygrove$Tree", name := "isBlank", desc := "(I)Z" } : Jvm.MethodName)) ∈ lw_all := lw_g (lw_at lw_m5 109 rfl) rfl
theorem q1146 : (Jvm.Cond.selects "Keygrove$Tree" ({ cls := "Keygrove$Tree", name := "isBlank", desc := "(I)Z" } : Jvm.MethodName) ({ cls := "Keygrove$Tree", name := "isBlank", desc := "(I)Z" } : Jvm.MethodName)) ∈ lw_all := lw_g (lw_at lw_m5 110 rfl) rfl
theorem q1147 : (Jvm.Cond.code ({ cls := "Keygrove$Tree", name := "isBlank", desc := "(I)Z" } : Jvm.MethodName) prog_13_method_11_code (2 : Nat) (Option.some Jvm.ClassFile.FieldType.boolean)) ∈ lw_all := lw_g (lw_at lw_m5 111 rfl) rfl
theorem q1221 : (Jvm.Cond.instanceMethod ({ cls := "Keygrove$Tree", name := "leafOf", desc := "(I)I" } : Jvm.MethodName)) ∈ lw_all := lw_g (lw_at lw_m5 185 rfl) rfl
theorem q1222 : (Jvm.Cond.selects "Keygrove$Tree" ({ cls := "Keygrove$Tree", name := "leafOf", desc := "(I)I" } : Jvm.MethodName) ({ cls := "Keygrove$Tree", name := "leafOf", desc := "(I)I" } : Jvm.MethodName)) ∈ lw_all := lw_g (lw_at lw_m5 186 rfl) rfl
theorem q1223 : (Jvm.Cond.code ({ cls := "Keygrove$Tree", name := "leafOf", desc := "(I)I" } : Jvm.MethodName) prog_13_method_20_code (3 : Nat) (Option.some Jvm.ClassFile.FieldType.int)) ∈ lw_all := lw_g (lw_at lw_m5 187 rfl) rfl
theorem q1276 : (Jvm.Cond.selects "Keygrove$Tree" ({ cls := "java/lang/Object", name := "hashCode", desc := "()I" } : Jvm.MethodName) ({ cls := "java/lang/Object", name := "hashCode", desc := "()I" } : Jvm.MethodName)) ∈ lw_all := lw_g (lw_at lw_m6 0 rfl) rfl
theorem q1377 : (Jvm.Cond.selects "Keygrove$Tree" ({ cls := "java/lang/Object", name := "equals", desc := "(Ljava/lang/Object;)Z" } : Jvm.MethodName) ({ cls := "java/lang/Object", name := "equals", desc := "(Ljava/lang/Object;)Z" } : Jvm.MethodName)) ∈ lw_all := lw_g (lw_at lw_m6 101 rfl) rfl
theorem q1794 : (Jvm.Cond.static ({ cls := "Keygrove$Tree", name := "covers", desc := "(II)Z" } : Jvm.MethodName)) ∈ lw_all := lw_g (lw_at lw_m8 38 rfl) rfl
theorem q1795 : (Jvm.Cond.code ({ cls := "Keygrove$Tree", name := "covers", desc := "(II)Z" } : Jvm.MethodName) prog_13_method_9_code (3 : Nat) (Option.some Jvm.ClassFile.FieldType.boolean)) ∈ lw_all := lw_g (lw_at lw_m8 39 rfl) rfl
theorem q1796 : (Jvm.Cond.methodLink "Keygrove$Tree" (32 : Nat) ({ cls := "Keygrove$Tree", name := "level", desc := "(I)I" } : Jvm.MethodName)) ∈ lw_all := lw_g (lw_at lw_m8 40 rfl) rfl
theorem q1797 : (Jvm.Cond.static ({ cls := "Keygrove$Tree", name := "level", desc := "(I)I" } : Jvm.MethodName)) ∈ lw_all := lw_g (lw_at lw_m8 41 rfl) rfl
theorem q1798 : (Jvm.Cond.code ({ cls := "Keygrove$Tree", name := "level", desc := "(I)I" } : Jvm.MethodName) prog_13_method_5_code (1 : Nat) (Option.some Jvm.ClassFile.FieldType.int)) ∈ lw_all := lw_g (lw_at lw_m8 42 rfl) rfl
theorem q1799 : (Jvm.Cond.methodLink "Keygrove$Tree" (26 : Nat) ({ cls := "java/lang/Integer", name := "numberOfTrailingZeros", desc := "(I)I" } : Jvm.MethodName)) ∈ lw_all := lw_g (lw_at lw_m8 43 rfl) rfl
theorem q2030 : (Jvm.Cond.instantiable "Keygrove$Tree" (4 : Nat)) ∈ lw_all := lw_g (lw_at lw_m9 34 rfl) rfl
theorem q2032 : (Jvm.Cond.instanceMethod ({ cls := "Keygrove$Tree", name := "<init>", desc := "()V" } : Jvm.MethodName)) ∈ lw_all := lw_g (lw_at lw_m9 36 rfl) rfl
theorem q2033 : (Jvm.Cond.code ({ cls := "Keygrove$Tree", name := "<init>", desc := "()V" } : Jvm.MethodName) prog_13_method_1_code (2 : Nat) (Option.none : Option Jvm.ClassFile.FieldType)) ∈ lw_all := lw_g (lw_at lw_m9 37 rfl) rfl
theorem q2034 : (Jvm.Cond.methodLink "Keygrove$Tree" (3 : Nat) ({ cls := "java/lang/Object", name := "<init>", desc := "()V" } : Jvm.MethodName)) ∈ lw_all := lw_g (lw_at lw_m9 38 rfl) rfl
theorem q2035 : (Jvm.Cond.fieldLink "Keygrove$Tree" (9 : Nat) "Keygrove$Tree" "leaves" "I") ∈ lw_all := lw_g (lw_at lw_m9 39 rfl) rfl
theorem q2038 : (Jvm.Cond.fieldLink "Keygrove$Tree" (15 : Nat) "Keygrove$Tree" "secrets" "[I") ∈ lw_all := lw_g (lw_at lw_m9 42 rfl) rfl
theorem q2041 : (Jvm.Cond.fieldLink "Keygrove$Tree" (19 : Nat) "Keygrove$Tree" "late" "[I") ∈ lw_all := lw_g (lw_at lw_m9 45 rfl) rfl
theorem q2043 : (Jvm.Cond.fieldLink "Keygrove$Tree" (22 : Nat) "Keygrove$Tree" "persons" "[I") ∈ lw_all := lw_g (lw_at lw_m9 47 rfl) rfl
theorem q2046 : (Jvm.Cond.lays "Keygrove$Tree" "Keygrove$Tree" "leaves" "I") ∈ lw_all := lw_g (lw_at lw_m9 50 rfl) rfl
theorem q2047 : (Jvm.Cond.soleField "Keygrove$Tree" "leaves") ∈ lw_all := lw_g (lw_at lw_m9 51 rfl) rfl
theorem q2048 : (Jvm.Cond.laysFinal "Keygrove$Tree" "Keygrove$Tree" "secrets" "[I") ∈ lw_all := lw_g (lw_at lw_m9 52 rfl) rfl
theorem q2049 : (Jvm.Cond.soleField "Keygrove$Tree" "secrets") ∈ lw_all := lw_g (lw_at lw_m9 53 rfl) rfl
theorem q2050 : (Jvm.Cond.laysFinal "Keygrove$Tree" "Keygrove$Tree" "late" "[I") ∈ lw_all := lw_g (lw_at lw_m9 54 rfl) rfl
theorem q2051 : (Jvm.Cond.soleField "Keygrove$Tree" "late") ∈ lw_all := lw_g (lw_at lw_m9 55 rfl) rfl
theorem q2052 : (Jvm.Cond.laysFinal "Keygrove$Tree" "Keygrove$Tree" "persons" "[I") ∈ lw_all := lw_g (lw_at lw_m9 56 rfl) rfl
theorem q2053 : (Jvm.Cond.soleField "Keygrove$Tree" "persons") ∈ lw_all := lw_g (lw_at lw_m9 57 rfl) rfl
theorem q2054 : (Jvm.Cond.superclass "Keygrove$Tree" "java/lang/Object") ∈ lw_all := lw_g (lw_at lw_m9 58 rfl) rfl
theorem q2481 : (Jvm.Cond.instanceMethod ({ cls := "Keygrove$Tree", name := "copy", desc := "()LKeygrove$Tree;" } : Jvm.MethodName)) ∈ lw_all := lw_g (lw_at lw_m11 5 rfl) rfl
theorem q2482 : (Jvm.Cond.selects "Keygrove$Tree" ({ cls := "Keygrove$Tree", name := "copy", desc := "()LKeygrove$Tree;" } : Jvm.MethodName) ({ cls := "Keygrove$Tree", name := "copy", desc := "()LKeygrove$Tree;" } : Jvm.MethodName)) ∈ lw_all := lw_g (lw_at lw_m11 6 rfl) rfl
theorem q2483 : (Jvm.Cond.code ({ cls := "Keygrove$Tree", name := "copy", desc := "()LKeygrove$Tree;" } : Jvm.MethodName) prog_13_method_2_code (3 : Nat) (Option.some (Jvm.ClassFile.FieldType.object "Keygrove$Tree"))) ∈ lw_all := lw_g (lw_at lw_m11 7 rfl) rfl
theorem q2484 : (Jvm.Cond.classLink "Keygrove$Tree" (10 : Nat) "Keygrove$Tree") ∈ lw_all := lw_g (lw_at lw_m11 8 rfl) rfl
theorem q2485 : (Jvm.Cond.methodLink "Keygrove$Tree" (25 : Nat) ({ cls := "Keygrove$Tree", name := "<init>", desc := "()V" } : Jvm.MethodName)) ∈ lw_all := lw_g (lw_at lw_m11 9 rfl) rfl
theorem q2491 : (Jvm.Cond.instanceMethod ({ cls := "Keygrove$Tree", name := "blanksWay", desc := "(I)V" } : Jvm.MethodName)) ∈ lw_all := lw_g (lw_at lw_m11 15 rfl) rfl
theorem q2492 : (Jvm.Cond.selects "Keygrove$Tree" ({ cls := "Keygrove$Tree", name := "blanksWay", desc := "(I)V" } : Jvm.MethodName) ({ cls := "Keygrove$Tree", name := "blanksWay", desc := "(I)V" } : Jvm.MethodName)) ∈ lw_all := lw_g (lw_at lw_m11 16 rfl) rfl
theorem q2493 : (Jvm.Cond.code ({ cls := "Keygrove$Tree", name := "blanksWay", desc := "(I)V" } : Jvm.MethodName) prog_13_method_16_code (4 : Nat) (Option.none : Option Jvm.ClassFile.FieldType)) ∈ lw_all := lw_g (lw_at lw_m11 17 rfl) rfl
theorem q2494 : (Jvm.Cond.methodLink "Keygrove$Tree" (77 : Nat) ({ cls := "Keygrove$Tree", name := "way", desc := "(I)Ljava/util/List;" } : Jvm.MethodName)) ∈ lw_all := lw_g (lw_at lw_m11 18 rfl) rfl
theorem q2495 : (Jvm.Cond.instanceMethod ({ cls := "Keygrove$Tree", name := "way", desc := "(I)Ljava/util/List;" } : Jvm.MethodName)) ∈ lw_all := lw_g (lw_at lw_m11 19 rfl) rfl
theorem q2496 : (Jvm.Cond.selects "Keygrove$Tree" ({ cls := "Keygrove$Tree", name := "way", desc := "(I)Ljava/util/List;" } : Jvm.MethodName) ({ cls := "Keygrove$Tree", name := "way", desc := "(I)Ljava/util/List;" } : Jvm.MethodName)) ∈ lw_all := lw_g (lw_at lw_m11 20 rfl) rfl
theorem q2497 : (Jvm.Cond.code ({ cls := "Keygrove$Tree", name := "way", desc := "(I)Ljava/util/List;" } : Jvm.MethodName) prog_13_method_12_code (4 : Nat) (Option.some (Jvm.ClassFile.FieldType.object "java/util/List"))) ∈ lw_all := lw_g (lw_at lw_m11 21 rfl) rfl
theorem q2498 : (Jvm.Cond.classLink "Keygrove$Tree" (39 : Nat) "java/util/ArrayList") ∈ lw_all := lw_g (lw_at lw_m11 22 rfl) rfl
theorem q2499 : (Jvm.Cond.methodLink "Keygrove$Tree" (41 : Nat) ({ cls := "java/util/ArrayList", name := "<init>", desc := "()V" } : Jvm.MethodName)) ∈ lw_all := lw_g (lw_at lw_m11 23 rfl) rfl
theorem q2500 : (Jvm.Cond.methodLink "Keygrove$Tree" (42 : Nat) ({ cls := "Keygrove$Tree", name := "root", desc := "()I" } : Jvm.MethodName)) ∈ lw_all := lw_g (lw_at lw_m11 24 rfl) rfl
theorem q2501 : (Jvm.Cond.instanceMethod ({ cls := "Keygrove$Tree", name := "root", desc := "()I" } : Jvm.MethodName)) ∈ lw_all := lw_g (lw_at lw_m11 25 rfl) rfl
theorem q2502 : (Jvm.Cond.selects "Keygrove$Tree" ({ cls := "Keygrove$Tree", name := "root", desc := "()I" } : Jvm.MethodName) ({ cls := "Keygrove$Tree", name := "root", desc := "()I" } : Jvm.MethodName)) ∈ lw_all := lw_g (lw_at lw_m11 26 rfl) rfl
theorem q2503 : (Jvm.Cond.code ({ cls := "Keygrove$Tree", name := "root", desc := "()I" } : Jvm.MethodName) prog_13_method_10_code (1 : Nat) (Option.some Jvm.ClassFile.FieldType.int)) ∈ lw_all := lw_g (lw_at lw_m11 27 rfl) rfl
theorem q2504 : (Jvm.Cond.methodLink "Keygrove$Tree" (46 : Nat) ({ cls := "Keygrove$Tree", name := "above", desc := "(I)I" } : Jvm.MethodName)) ∈ lw_all := lw_g (lw_at lw_m11 28 rfl) rfl
theorem q2505 : (Jvm.Cond.static ({ cls := "Keygrove$Tree", name := "above", desc := "(I)I" } : Jvm.MethodName)) ∈ lw_all := lw_g (lw_at lw_m11 29 rfl) rfl
theorem q2506 : (Jvm.Cond.code ({ cls := "Keygrove$Tree", name := "above", desc := "(I)I" } : Jvm.MethodName) prog_13_method_8_code (2 : Nat) (Option.some Jvm.ClassFile.FieldType.int)) ∈ lw_all := lw_g (lw_at lw_m11 30 rfl) rfl
theorem q2507 : (Jvm.Cond.methodLink "Keygrove$Tree" (35 : Nat) ({ cls := "Keygrove$Tree", name := "node", desc := "(II)I" } : Jvm.MethodName)) ∈ lw_all := lw_g (lw_at lw_m11 31 rfl) rfl
theorem q2508 : (Jvm.Cond.static ({ cls := "Keygrove$Tree", name := "node", desc := "(II)I" } : Jvm.MethodName)) ∈ lw_all := lw_g (lw_at lw_m11 32 rfl) rfl
theorem q2509 : (Jvm.Cond.code ({ cls := "Keygrove$Tree", name := "node", desc := "(II)I" } : Jvm.MethodName) prog_13_method_4_code (2 : Nat) (Option.some Jvm.ClassFile.FieldType.int)) ∈ lw_all := lw_g (lw_at lw_m11 33 rfl) rfl
theorem q2510 : (Jvm.Cond.methodLink "Keygrove$Tree" (49 : Nat) ({ cls := "java/lang/Integer", name := "valueOf", desc := "(I)Ljava/lang/Integer;" } : Jvm.MethodName)) ∈ lw_all := lw_g (lw_at lw_m11 34 rfl) rfl
theorem q2511 : (Jvm.Cond.interfaceEntry "Keygrove$Tree" (53 : Nat)) ∈ lw_tbl := lw_at lw_m11 35 rfl
theorem q2512 : (Jvm.Cond.methodLink "Keygrove$Tree" (53 : Nat) ({ cls := "java/util/List", name := "add", desc := "(Ljava/lang/Object;)Z" } : Jvm.MethodName)) ∈ lw_all := lw_g (lw_at lw_m11 36 rfl) rfl
theorem q2513 : (Jvm.Cond.interfaceEntry "Keygrove$Tree" (81 : Nat)) ∈ lw_tbl := lw_at lw_m11 37 rfl
theorem q2514 : (Jvm.Cond.methodLink "Keygrove$Tree" (81 : Nat) ({ cls := "java/util/List", name := "iterator", desc := "()Ljava/util/Iterator;" } : Jvm.MethodName)) ∈ lw_all := lw_g (lw_at lw_m11 38 rfl) rfl
theorem q2515 : (Jvm.Cond.interfaceEntry "Keygrove$Tree" (85 : Nat)) ∈ lw_tbl := lw_at lw_m11 39 rfl
theorem q2516 : (Jvm.Cond.methodLink "Keygrove$Tree" (85 : Nat) ({ cls := "java/util/Iterator", name := "hasNext", desc := "()Z" } : Jvm.MethodName)) ∈ lw_all := lw_g (lw_at lw_m11 40 rfl) rfl
theorem q2517 : (Jvm.Cond.interfaceEntry "Keygrove$Tree" (91 : Nat)) ∈ lw_tbl := lw_at lw_m11 41 rfl
theorem q2518 : (Jvm.Cond.methodLink "Keygrove$Tree" (91 : Nat) ({ cls := "java/util/Iterator", name := "next", desc := "()Ljava/lang/Object;" } : Jvm.MethodName)) ∈ lw_all := lw_g (lw_at lw_m11 42 rfl) rfl
theorem q2519 : (Jvm.Cond.classLink "Keygrove$Tree" (27 : Nat) "java/lang/Integer") ∈ lw_all := lw_g (lw_at lw_m11 43 rfl) rfl
theorem q2520 : (Jvm.Cond.methodLink "Keygrove$Tree" (95 : Nat) ({ cls := "java/lang/Integer", name := "intValue", desc := "()I" } : Jvm.MethodName)) ∈ lw_all := lw_g (lw_at lw_m11 44 rfl) rfl
theorem q2521 : (Jvm.Cond.methodLink "Keygrove$Tree" (98 : Nat) ({ cls := "Keygrove$Tree", name := "blanks", desc := "(I)V" } : Jvm.MethodName)) ∈ lw_all := lw_g (lw_at lw_m11 45 rfl) rfl
theorem q2522 : (Jvm.Cond.privateMethod ({ cls := "Keygrove$Tree", name := "blanks", desc := "(I)V" } : Jvm.MethodName)) ∈ lw_tbl := lw_at lw_m11 46 rfl
theorem q2523 : (Jvm.Cond.instanceMethod ({ cls := "Keygrove$Tree", name := "blanks", desc := "(I)V" } : Jvm.MethodName)) ∈ lw_all := lw_g (lw_at lw_m11 47 rfl) rfl
theorem q2524 : (Jvm.Cond.code ({ cls := "Keygrove$Tree", name := "blanks", desc := "(I)V" } : Jvm.MethodName) prog_13_method_15_code (2 : Nat) (Option.none : Option Jvm.ClassFile.FieldType)) ∈ lw_all := lw_g (lw_at lw_m11 48 rfl) rfl
theorem q2536 : (Jvm.Cond.instanceMethod ({ cls := "Keygrove$Tree", name := "removes", desc := "(I)V" } : Jvm.MethodName)) ∈ lw_all := lw_g (lw_at lw_m11 60 rfl) rfl
theorem q2537 : (Jvm.Cond.selects "Keygrove$Tree" ({ cls := "Keygrove$Tree", name := "removes", desc := "(I)V" } : Jvm.MethodName) ({ cls := "Keygrove$Tree", name := "removes", desc := "(I)V" } : Jvm.MethodName)) ∈ lw_all := lw_g (lw_at lw_m11 61 rfl) rfl
theorem q2538 : (Jvm.Cond.code ({ cls := "Keygrove$Tree", name := "removes", desc := "(I)V" } : Jvm.MethodName) prog_13_method_17_code (2 : Nat) (Option.none : Option Jvm.ClassFile.FieldType)) ∈ lw_all := lw_g (lw_at lw_m11 62 rfl) rfl
theorem q2539 : (Jvm.Cond.methodLink "Keygrove$Tree" (102 : Nat) ({ cls := "Keygrove$Tree", name := "blanksWay", desc := "(I)V" } : Jvm.MethodName)) ∈ lw_all := lw_g (lw_at lw_m11 63 rfl) rfl
theorem q2541 : (Jvm.Cond.instanceMethod ({ cls := "Keygrove$Tree", name := "halves", desc := "()V" } : Jvm.MethodName)) ∈ lw_all := lw_g (lw_at lw_m11 65 rfl) rfl
theorem q2542 : (Jvm.Cond.selects "Keygrove$Tree" ({ cls := "Keygrove$Tree", name := "halves", desc := "()V" } : Jvm.MethodName) ({ cls := "Keygrove$Tree", name := "halves", desc := "()V" } : Jvm.MethodName)) ∈ lw_all := lw_g (lw_at lw_m11 66 rfl) rfl
theorem q2543 : (Jvm.Cond.code ({ cls := "Keygrove$Tree", name := "halves", desc := "()V" } : Jvm.MethodName) prog_13_method_18_code (4 : Nat) (Option.none : Option Jvm.ClassFile.FieldType)) ∈ lw_all := lw_g (lw_at lw_m11 67 rfl) rfl
theorem q2544 : (Jvm.Cond.methodLink "Keygrove$Tree" (105 : Nat) ({ cls := "Keygrove$Tree", name := "nodes", desc := "()I" } : Jvm.MethodName)) ∈ lw_all := lw_g (lw_at lw_m11 68 rfl) rfl
theorem q2550 : (Jvm.Cond.instanceMethod ({ cls := "Keygrove$Tree", name := "adds", desc := "(II)I" } : Jvm.MethodName)) ∈ lw_all := lw_g (lw_at lw_m11 74 rfl) rfl
theorem q2551 : (Jvm.Cond.selects "Keygrove$Tree" ({ cls := "Keygrove$Tree", name := "adds", desc := "(II)I" } : Jvm.MethodName) ({ cls := "Keygrove$Tree", name := "adds", desc := "(II)I" } : Jvm.MethodName)) ∈ lw_all := lw_g (lw_at lw_m11 75 rfl) rfl
theorem q2552 : (Jvm.Cond.code ({ cls := "Keygrove$Tree", name := "adds", desc := "(II)I" } : Jvm.MethodName) prog_13_method_19_code (6 : Nat) (Option.some Jvm.ClassFile.FieldType.int)) ∈ lw_all := lw_g (lw_at lw_m11 76 rfl) rfl
theorem q2553 : (Jvm.Cond.methodLink "Keygrove$Tree" (63 : Nat) ({ cls := "Keygrove$Tree", name := "isBlank", desc := "(I)Z" } : Jvm.MethodName)) ∈ lw_all := lw_g (lw_at lw_m11 77 rfl) rfl
theorem q2562 : (Jvm.Cond.static ({ cls := "Keygrove$Tree", name := "left", desc := "(I)I" } : Jvm.MethodName)) ∈ lw_all := lw_g (lw_at lw_m11 86 rfl) rfl
theorem q2563 : (Jvm.Cond.code ({ cls := "Keygrove$Tree", name := "left", desc := "(I)I" } : Jvm.MethodName) prog_13_method_6_code (1 : Nat) (Option.some Jvm.ClassFile.FieldType.int)) ∈ lw_all := lw_g (lw_at lw_m11 87 rfl) rfl
theorem q2565 : (Jvm.Cond.static ({ cls := "Keygrove$Tree", name := "right", desc := "(I)I" } : Jvm.MethodName)) ∈ lw_all := lw_g (lw_at lw_m11 89 rfl) rfl
theorem q2566 : (Jvm.Cond.code ({ cls := "Keygrove$Tree", name := "right", desc := "(I)I" } : Jvm.MethodName) prog_13_method_7_code (1 : Nat) (Option.some Jvm.ClassFile.FieldType.int)) ∈ lw_all := lw_g (lw_at lw_m11 90 rfl) rfl
theorem q2568 : (Jvm.Cond.instanceMethod ({ cls := "Keygrove$Tree", name := "cover", desc := "(I)Ljava/util/List;" } : Jvm.MethodName)) ∈ lw_all := lw_g (lw_at lw_m11 92 rfl) rfl
theorem q2569 : (Jvm.Cond.selects "Keygrove$Tree" ({ cls := "Keygrove$Tree", name := "cover", desc := "(I)Ljava/util/List;" } : Jvm.MethodName) ({ cls := "Keygrove$Tree", name := "cover", desc := "(I)Ljava/util/List;" } : Jvm.MethodName)) ∈ lw_all := lw_g (lw_at lw_m11 93 rfl) rfl
theorem q2570 : (Jvm.Cond.code ({ cls := "Keygrove$Tree", name := "cover", desc := "(I)Ljava/util/List;" } : Jvm.MethodName) prog_13_method_13_code (3 : Nat) (Option.some (Jvm.ClassFile.FieldType.object "java/util/List"))) ∈ lw_all := lw_g (lw_at lw_m11 94 rfl) rfl
theorem q2571 : (Jvm.Cond.methodLink "Keygrove$Tree" (59 : Nat) ({ cls := "Keygrove$Tree", name := "covers", desc := "(ILjava/util/List;)V" } : Jvm.MethodName)) ∈ lw_all := lw_g (lw_at lw_m11 95 rfl) rfl
theorem q2572 : (Jvm.Cond.privateMethod ({ cls := "Keygrove$Tree", name := "covers", desc := "(ILjava/util/List;)V" } : Jvm.MethodName)) ∈ lw_tbl := lw_at lw_m11 96 rfl
theorem q2573 : (Jvm.Cond.instanceMethod ({ cls := "Keygrove$Tree", name := "covers", desc := "(ILjava/util/List;)V" } : Jvm.MethodName)) ∈ lw_all := lw_g (lw_at lw_m11 97 rfl) rfl
theorem q2574 : (Jvm.Cond.code ({ cls := "Keygrove$Tree", name := "covers", desc := "(ILjava/util/List;)V" } : Jvm.MethodName) prog_13_method_14_code (4 : Nat) (Option.none : Option Jvm.ClassFile.FieldType)) ∈ lw_all := lw_g (lw_at lw_m11 98 rfl) rfl
theorem q2575 : (Jvm.Cond.methodLinkNest "Keygrove$Tree" (67 : Nat) ({ cls := "Keygrove", name := "has", desc := "(II)Z" } : Jvm.MethodName) "Keygrove") ∈ lw_tbl := lw_at lw_m11 99 rfl
theorem q2576 : (Jvm.Cond.methodLink "Keygrove$Tree" (71 : Nat) ({ cls := "Keygrove$Tree", name := "left", desc := "(I)I" } : Jvm.MethodName)) ∈ lw_all := lw_g (lw_at lw_m11 100 rfl) rfl
theorem q2577 : (Jvm.Cond.methodLink "Keygrove$Tree" (74 : Nat) ({ cls := "Keygrove$Tree", name := "right", desc := "(I)I" } : Jvm.MethodName)) ∈ lw_all := lw_g (lw_at lw_m11 101 rfl) rfl
theorem q3702 : (Jvm.Cond.castable "Keygrove$Tree" "java/lang/Object") ∈ lw_tbl := lw_at lw_m16 26 rfl
theorem in_X10 : ∀ w ∈ wsX100, w ∈ lw_all := lw_in wsX100 [2046, 2048, 2050, 2052] (by decide +kernel) (by decide +kernel)
/-! Keygrove$Step -/
def RX11 : String := "Keygrove$Step"
def TX11 : u_T := fun k => match k with
  | 0 => ("Keygrove$Step", "leaf", "I", true)
  | 1 => ("Keygrove$Step", "before", "I", true)
  | 2 => ("Keygrove$Step", "secret", "I", true)
  | 3 => ("Keygrove$Step", "begins", "Ljava/util/TreeMap;", true)
  | _ => ("Keygrove$Step", "ends", "Ljava/util/TreeMap;", true)
def tyX11 : Nat → FieldType := fun k => match k with
  | 0 => .int
  | 1 => .int
  | 2 => .int
  | 3 => .object "java/util/TreeMap"
  | _ => .object "java/util/TreeMap"
abbrev wsX110 : List Cond := u_ws RX11 TX11 5
theorem nmX11 : ∀ a, a < 5 → ∀ b, b < 5 → a ≠ b → (TX11 a).2.1 ≠ (TX11 b).2.1 := by decide +kernel
theorem tyX11_ok : ∀ k, k < 5 → parseFieldDescriptor (TX11 k).2.2.1 = some (tyX11 k) := by decide +kernel
abbrev cX11_init : ByteArray := prog_12_method_1_code
def yX11_init : MethodName := ⟨RX11, "<init>", "(III)V"⟩
def dkwX11_init_1 : List UInt8 := [181, 0, 16, 42, 27, 181, 0, 19, 42, 28, 181, 0, 23, 42, 29, 181, 0, 26, 177]
abbrev dktX11_init_1 : List UInt8 := dkwX11_init_1 ++ []
def dkwX11_init_0 : List UInt8 := [42, 183, 0, 1, 42, 187, 0, 7, 89, 183, 0, 9, 181, 0, 10, 42, 187, 0, 7, 89, 183, 0, 9]
abbrev dktX11_init_0 : List UInt8 := dkwX11_init_0 ++ dktX11_init_1
theorem dksX11_init_0 : cX11_init.data.toList.drop 0 = dktX11_init_0 := by decide +kernel
theorem dksX11_init_1 : cX11_init.data.toList.drop 23 = dktX11_init_1 := dk_seg dksX11_init_0 23 rfl rfl
theorem dX11_init_0 : decode cX11_init 0 = .ok (.aload_n 0, 1) := dk_42 (dk_at dksX11_init_0 0 rfl rfl)
theorem dX11_init_1 : decode cX11_init 1 = .ok (.invokespecial 1, 3) := dk_183 0 1 (dk_at dksX11_init_0 1 rfl rfl)
theorem dX11_init_4 : decode cX11_init 4 = .ok (.aload_n 0, 1) := dk_42 (dk_at dksX11_init_0 4 rfl rfl)
theorem dX11_init_5 : decode cX11_init 5 = .ok (.new 7, 3) := dk_187 0 7 (dk_at dksX11_init_0 5 rfl rfl)
theorem dX11_init_8 : decode cX11_init 8 = .ok (.dup, 1) := dk_89 (dk_at dksX11_init_0 8 rfl rfl)
theorem dX11_init_9 : decode cX11_init 9 = .ok (.invokespecial 9, 3) := dk_183 0 9 (dk_at dksX11_init_0 9 rfl rfl)
theorem dX11_init_12 : decode cX11_init 12 = .ok (.putfield 10, 3) := dk_181 0 10 (dk_at dksX11_init_0 12 rfl rfl)
theorem dX11_init_15 : decode cX11_init 15 = .ok (.aload_n 0, 1) := dk_42 (dk_at dksX11_init_0 15 rfl rfl)
theorem dX11_init_16 : decode cX11_init 16 = .ok (.new 7, 3) := dk_187 0 7 (dk_at dksX11_init_0 16 rfl rfl)
theorem dX11_init_19 : decode cX11_init 19 = .ok (.dup, 1) := dk_89 (dk_at dksX11_init_0 19 rfl rfl)
theorem dX11_init_20 : decode cX11_init 20 = .ok (.invokespecial 9, 3) := dk_183 0 9 (dk_at dksX11_init_0 20 rfl rfl)
theorem dX11_init_23 : decode cX11_init 23 = .ok (.putfield 16, 3) := dk_181 0 16 (dk_at dksX11_init_1 0 rfl rfl)
theorem dX11_init_26 : decode cX11_init 26 = .ok (.aload_n 0, 1) := dk_42 (dk_at dksX11_init_1 3 rfl rfl)
theorem dX11_init_27 : decode cX11_init 27 = .ok (.iload_n 1, 1) := dk_27 (dk_at dksX11_init_1 4 rfl rfl)
theorem dX11_init_28 : decode cX11_init 28 = .ok (.putfield 19, 3) := dk_181 0 19 (dk_at dksX11_init_1 5 rfl rfl)
theorem dX11_init_31 : decode cX11_init 31 = .ok (.aload_n 0, 1) := dk_42 (dk_at dksX11_init_1 8 rfl rfl)
theorem dX11_init_32 : decode cX11_init 32 = .ok (.iload_n 2, 1) := dk_28 (dk_at dksX11_init_1 9 rfl rfl)
theorem dX11_init_33 : decode cX11_init 33 = .ok (.putfield 23, 3) := dk_181 0 23 (dk_at dksX11_init_1 10 rfl rfl)
theorem dX11_init_36 : decode cX11_init 36 = .ok (.aload_n 0, 1) := dk_42 (dk_at dksX11_init_1 13 rfl rfl)
theorem dX11_init_37 : decode cX11_init 37 = .ok (.iload_n 3, 1) := dk_29 (dk_at dksX11_init_1 14 rfl rfl)
theorem dX11_init_38 : decode cX11_init 38 = .ok (.putfield 26, 3) := dk_181 0 26 (dk_at dksX11_init_1 15 rfl rfl)
theorem dX11_init_41 : decode cX11_init 41 = .ok (.return_, 1) := dk_177 (dk_at dksX11_init_1 18 rfl rfl)
theorem q124 : (Jvm.Cond.initialized "Keygrove$Step") ∈ lw_all := lw_g (lw_at lw_m1 48 rfl) rfl
theorem q743 : (Jvm.Cond.selects "Keygrove$Step" ({ cls := "java/lang/Object", name := "getClass", desc := "()Ljava/lang/Class;" } : Jvm.MethodName) ({ cls := "java/lang/Object", name := "getClass", desc := "()Ljava/lang/Class;" } : Jvm.MethodName)) ∈ lw_all := lw_g (lw_at lw_m3 187 rfl) rfl
theorem q1275 : (Jvm.Cond.selects "Keygrove$Step" ({ cls := "java/lang/Object", name := "hashCode", desc := "()I" } : Jvm.MethodName) ({ cls := "java/lang/Object", name := "hashCode", desc := "()I" } : Jvm.MethodName)) ∈ lw_all := lw_g (lw_at lw_m5 239 rfl) rfl
theorem q1376 : (Jvm.Cond.selects "Keygrove$Step" ({ cls := "java/lang/Object", name := "equals", desc := "(Ljava/lang/Object;)Z" } : Jvm.MethodName) ({ cls := "java/lang/Object", name := "equals", desc := "(Ljava/lang/Object;)Z" } : Jvm.MethodName)) ∈ lw_all := lw_g (lw_at lw_m6 100 rfl) rfl
theorem q2056 : (Jvm.Cond.instantiable "Keygrove$Step" (5 : Nat)) ∈ lw_all := lw_g (lw_at lw_m9 60 rfl) rfl
theorem q2058 : (Jvm.Cond.instanceMethod ({ cls := "Keygrove$Step", name := "<init>", desc := "(III)V" } : Jvm.MethodName)) ∈ lw_all := lw_g (lw_at lw_m9 62 rfl) rfl
theorem q2059 : (Jvm.Cond.code ({ cls := "Keygrove$Step", name := "<init>", desc := "(III)V" } : Jvm.MethodName) prog_12_method_1_code (4 : Nat) (Option.none : Option Jvm.ClassFile.FieldType)) ∈ lw_all := lw_g (lw_at lw_m9 63 rfl) rfl
theorem q2060 : (Jvm.Cond.methodLink "Keygrove$Step" (1 : Nat) ({ cls := "java/lang/Object", name := "<init>", desc := "()V" } : Jvm.MethodName)) ∈ lw_all := lw_g (lw_at lw_m9 64 rfl) rfl
theorem q2061 : (Jvm.Cond.classLink "Keygrove$Step" (7 : Nat) "java/util/TreeMap") ∈ lw_all := lw_g (lw_at lw_m9 65 rfl) rfl
theorem q2062 : (Jvm.Cond.methodLink "Keygrove$Step" (9 : Nat) ({ cls := "java/util/TreeMap", name := "<init>", desc := "()V" } : Jvm.MethodName)) ∈ lw_all := lw_g (lw_at lw_m9 66 rfl) rfl
theorem q2063 : (Jvm.Cond.fieldLink "Keygrove$Step" (19 : Nat) "Keygrove$Step" "leaf" "I") ∈ lw_all := lw_g (lw_at lw_m9 67 rfl) rfl
theorem q2065 : (Jvm.Cond.fieldLink "Keygrove$Step" (23 : Nat) "Keygrove$Step" "before" "I") ∈ lw_all := lw_g (lw_at lw_m9 69 rfl) rfl
theorem q2067 : (Jvm.Cond.fieldLink "Keygrove$Step" (26 : Nat) "Keygrove$Step" "secret" "I") ∈ lw_all := lw_g (lw_at lw_m9 71 rfl) rfl
theorem q2069 : (Jvm.Cond.fieldLink "Keygrove$Step" (10 : Nat) "Keygrove$Step" "begins" "Ljava/util/TreeMap;") ∈ lw_all := lw_g (lw_at lw_m9 73 rfl) rfl
theorem q2071 : (Jvm.Cond.fieldLink "Keygrove$Step" (16 : Nat) "Keygrove$Step" "ends" "Ljava/util/TreeMap;") ∈ lw_all := lw_g (lw_at lw_m9 75 rfl) rfl
theorem q2073 : (Jvm.Cond.laysFinal "Keygrove$Step" "Keygrove$Step" "leaf" "I") ∈ lw_all := lw_g (lw_at lw_m9 77 rfl) rfl
theorem q2074 : (Jvm.Cond.soleField "Keygrove$Step" "leaf") ∈ lw_all := lw_g (lw_at lw_m9 78 rfl) rfl
theorem q2075 : (Jvm.Cond.laysFinal "Keygrove$Step" "Keygrove$Step" "before" "I") ∈ lw_all := lw_g (lw_at lw_m9 79 rfl) rfl
theorem q2076 : (Jvm.Cond.soleField "Keygrove$Step" "before") ∈ lw_all := lw_g (lw_at lw_m9 80 rfl) rfl
theorem q2077 : (Jvm.Cond.laysFinal "Keygrove$Step" "Keygrove$Step" "secret" "I") ∈ lw_all := lw_g (lw_at lw_m9 81 rfl) rfl
theorem q2078 : (Jvm.Cond.soleField "Keygrove$Step" "secret") ∈ lw_all := lw_g (lw_at lw_m9 82 rfl) rfl
theorem q2079 : (Jvm.Cond.laysFinal "Keygrove$Step" "Keygrove$Step" "begins" "Ljava/util/TreeMap;") ∈ lw_all := lw_g (lw_at lw_m9 83 rfl) rfl
theorem q2080 : (Jvm.Cond.soleField "Keygrove$Step" "begins") ∈ lw_all := lw_g (lw_at lw_m9 84 rfl) rfl
theorem q2081 : (Jvm.Cond.laysFinal "Keygrove$Step" "Keygrove$Step" "ends" "Ljava/util/TreeMap;") ∈ lw_all := lw_g (lw_at lw_m9 85 rfl) rfl
theorem q2082 : (Jvm.Cond.soleField "Keygrove$Step" "ends") ∈ lw_all := lw_g (lw_at lw_m9 86 rfl) rfl
theorem q2083 : (Jvm.Cond.superclass "Keygrove$Step" "java/lang/Object") ∈ lw_all := lw_g (lw_at lw_m9 87 rfl) rfl
theorem q3703 : (Jvm.Cond.castable "Keygrove$Step" "java/lang/Object") ∈ lw_tbl := lw_at lw_m16 27 rfl
theorem in_X11 : ∀ w ∈ wsX110, w ∈ lw_all := lw_in wsX110 [2073, 2075, 2077, 2079, 2081] (by decide +kernel) (by decide +kernel)
/-! Keygrove$Chain -/
def RX12 : String := "Keygrove$Chain"
def TX12 : u_T := fun k => match k with
  | 0 => ("Keygrove$Chain", "next", "I", false)
  | 1 => ("Keygrove$Chain", "place", "I", false)
  | _ => ("Keygrove$Chain", "left", "Ljava/util/TreeMap;", true)
def tyX12 : Nat → FieldType := fun k => match k with
  | 0 => .int
  | 1 => .int
  | _ => .object "java/util/TreeMap"
abbrev wsX120 : List Cond := u_ws RX12 TX12 3
theorem nmX12 : ∀ a, a < 3 → ∀ b, b < 3 → a ≠ b → (TX12 a).2.1 ≠ (TX12 b).2.1 := by decide +kernel
theorem tyX12_ok : ∀ k, k < 3 → parseFieldDescriptor (TX12 k).2.2.1 = some (tyX12 k) := by decide +kernel
abbrev cX12_init : ByteArray := prog_4_method_1_code
def yX12_init : MethodName := ⟨RX12, "<init>", "(I)V"⟩
def dkwX12_init_0 : List UInt8 := [42, 183, 0, 1, 42, 187, 0, 7, 89, 183, 0, 9, 181, 0, 10, 42, 27, 181, 0, 16, 177]
abbrev dktX12_init_0 : List UInt8 := dkwX12_init_0 ++ []
theorem dksX12_init_0 : cX12_init.data.toList.drop 0 = dktX12_init_0 := by decide +kernel
theorem dX12_init_0 : decode cX12_init 0 = .ok (.aload_n 0, 1) := dk_42 (dk_at dksX12_init_0 0 rfl rfl)
theorem dX12_init_1 : decode cX12_init 1 = .ok (.invokespecial 1, 3) := dk_183 0 1 (dk_at dksX12_init_0 1 rfl rfl)
theorem dX12_init_4 : decode cX12_init 4 = .ok (.aload_n 0, 1) := dk_42 (dk_at dksX12_init_0 4 rfl rfl)
theorem dX12_init_5 : decode cX12_init 5 = .ok (.new 7, 3) := dk_187 0 7 (dk_at dksX12_init_0 5 rfl rfl)
theorem dX12_init_8 : decode cX12_init 8 = .ok (.dup, 1) := dk_89 (dk_at dksX12_init_0 8 rfl rfl)
theorem dX12_init_9 : decode cX12_init 9 = .ok (.invokespecial 9, 3) := dk_183 0 9 (dk_at dksX12_init_0 9 rfl rfl)
theorem dX12_init_12 : decode cX12_init 12 = .ok (.putfield 10, 3) := dk_181 0 10 (dk_at dksX12_init_0 12 rfl rfl)
theorem dX12_init_15 : decode cX12_init 15 = .ok (.aload_n 0, 1) := dk_42 (dk_at dksX12_init_0 15 rfl rfl)
theorem dX12_init_16 : decode cX12_init 16 = .ok (.iload_n 1, 1) := dk_27 (dk_at dksX12_init_0 16 rfl rfl)
theorem dX12_init_17 : decode cX12_init 17 = .ok (.putfield 16, 3) := dk_181 0 16 (dk_at dksX12_init_0 17 rfl rfl)
theorem dX12_init_20 : decode cX12_init 20 = .ok (.return_, 1) := dk_177 (dk_at dksX12_init_0 20 rfl rfl)
theorem q132 : (Jvm.Cond.initialized "Keygrove$Chain") ∈ lw_all := lw_g (lw_at lw_m1 56 rfl) rfl
theorem q736 : (Jvm.Cond.selects "Keygrove$Chain" ({ cls := "java/lang/Object", name := "getClass", desc := "()Ljava/lang/Class;" } : Jvm.MethodName) ({ cls := "java/lang/Object", name := "getClass", desc := "()Ljava/lang/Class;" } : Jvm.MethodName)) ∈ lw_all := lw_g (lw_at lw_m3 180 rfl) rfl
theorem q1268 : (Jvm.Cond.selects "Keygrove$Chain" ({ cls := "java/lang/Object", name := "hashCode", desc := "()I" } : Jvm.MethodName) ({ cls := "java/lang/Object", name := "hashCode", desc := "()I" } : Jvm.MethodName)) ∈ lw_all := lw_g (lw_at lw_m5 232 rfl) rfl
theorem q1369 : (Jvm.Cond.selects "Keygrove$Chain" ({ cls := "java/lang/Object", name := "equals", desc := "(Ljava/lang/Object;)Z" } : Jvm.MethodName) ({ cls := "java/lang/Object", name := "equals", desc := "(Ljava/lang/Object;)Z" } : Jvm.MethodName)) ∈ lw_all := lw_g (lw_at lw_m6 93 rfl) rfl
theorem q2182 : (Jvm.Cond.instantiable "Keygrove$Chain" (3 : Nat)) ∈ lw_all := lw_g (lw_at lw_m9 186 rfl) rfl
theorem q2184 : (Jvm.Cond.instanceMethod ({ cls := "Keygrove$Chain", name := "<init>", desc := "(I)V" } : Jvm.MethodName)) ∈ lw_all := lw_g (lw_at lw_m9 188 rfl) rfl
theorem q2185 : (Jvm.Cond.code ({ cls := "Keygrove$Chain", name := "<init>", desc := "(I)V" } : Jvm.MethodName) prog_4_method_1_code (2 : Nat) (Option.none : Option Jvm.ClassFile.FieldType)) ∈ lw_all := lw_g (lw_at lw_m9 189 rfl) rfl
theorem q2186 : (Jvm.Cond.methodLink "Keygrove$Chain" (1 : Nat) ({ cls := "java/lang/Object", name := "<init>", desc := "()V" } : Jvm.MethodName)) ∈ lw_all := lw_g (lw_at lw_m9 190 rfl) rfl
theorem q2187 : (Jvm.Cond.classLink "Keygrove$Chain" (7 : Nat) "java/util/TreeMap") ∈ lw_all := lw_g (lw_at lw_m9 191 rfl) rfl
theorem q2188 : (Jvm.Cond.methodLink "Keygrove$Chain" (9 : Nat) ({ cls := "java/util/TreeMap", name := "<init>", desc := "()V" } : Jvm.MethodName)) ∈ lw_all := lw_g (lw_at lw_m9 192 rfl) rfl
theorem q2189 : (Jvm.Cond.fieldLink "Keygrove$Chain" (16 : Nat) "Keygrove$Chain" "next" "I") ∈ lw_all := lw_g (lw_at lw_m9 193 rfl) rfl
theorem q2193 : (Jvm.Cond.fieldLink "Keygrove$Chain" (10 : Nat) "Keygrove$Chain" "left" "Ljava/util/TreeMap;") ∈ lw_all := lw_g (lw_at lw_m9 197 rfl) rfl
theorem q2196 : (Jvm.Cond.lays "Keygrove$Chain" "Keygrove$Chain" "next" "I") ∈ lw_all := lw_g (lw_at lw_m9 200 rfl) rfl
theorem q2197 : (Jvm.Cond.soleField "Keygrove$Chain" "next") ∈ lw_all := lw_g (lw_at lw_m9 201 rfl) rfl
theorem q2198 : (Jvm.Cond.lays "Keygrove$Chain" "Keygrove$Chain" "place" "I") ∈ lw_all := lw_g (lw_at lw_m9 202 rfl) rfl
theorem q2199 : (Jvm.Cond.soleField "Keygrove$Chain" "place") ∈ lw_all := lw_g (lw_at lw_m9 203 rfl) rfl
theorem q2200 : (Jvm.Cond.laysFinal "Keygrove$Chain" "Keygrove$Chain" "left" "Ljava/util/TreeMap;") ∈ lw_all := lw_g (lw_at lw_m9 204 rfl) rfl
theorem q2201 : (Jvm.Cond.soleField "Keygrove$Chain" "left") ∈ lw_all := lw_g (lw_at lw_m9 205 rfl) rfl
theorem q2202 : (Jvm.Cond.superclass "Keygrove$Chain" "java/lang/Object") ∈ lw_all := lw_g (lw_at lw_m9 206 rfl) rfl
theorem q3708 : (Jvm.Cond.castable "Keygrove$Chain" "java/lang/Object") ∈ lw_tbl := lw_at lw_m16 32 rfl
theorem in_X12 : ∀ w ∈ wsX120, w ∈ lw_all := lw_in wsX120 [2196, 2198, 2200] (by decide +kernel) (by decide +kernel)
/-! KeygroveModel$Epoch -/
def RX13 : String := "KeygroveModel$Epoch"
def TX13 : u_T := fun k => match k with
  | 0 => ("KeygroveModel$Epoch", "number", "I", true)
  | 1 => ("KeygroveModel$Epoch", "leaves", "I", false)
  | 2 => ("KeygroveModel$Epoch", "goes", "I", false)
  | 3 => ("KeygroveModel$Epoch", "key", "I", false)
  | 4 => ("KeygroveModel$Epoch", "persons", "[I", true)
  | 5 => ("KeygroveModel$Epoch", "node", "[I", true)
  | 6 => ("KeygroveModel$Epoch", "late", "[I", true)
  | 7 => ("KeygroveModel$Epoch", "chains", "[I", true)
  | 8 => ("KeygroveModel$Epoch", "isOnWay", "[Z", true)
  | 9 => ("KeygroveModel$Epoch", "isRemoved", "[Z", true)
  | _ => ("KeygroveModel$Epoch", "packs", "[I", true)
def tyX13 : Nat → FieldType := fun k => match k with
  | 0 => .int
  | 1 => .int
  | 2 => .int
  | 3 => .int
  | 4 => .array .int
  | 5 => .array .int
  | 6 => .array .int
  | 7 => .array .int
  | 8 => .array .boolean
  | 9 => .array .boolean
  | _ => .array .int
abbrev wsX130 : List Cond := u_ws RX13 TX13 11
theorem nmX13 : ∀ a, a < 11 → ∀ b, b < 11 → a ≠ b → (TX13 a).2.1 ≠ (TX13 b).2.1 := by decide +kernel
theorem tyX13_ok : ∀ k, k < 11 → parseFieldDescriptor (TX13 k).2.2.1 = some (tyX13 k) := by decide +kernel
abbrev cX13_init : ByteArray := prog_18_method_1_code
def yX13_init : MethodName := ⟨RX13, "<init>", "(I)V"⟩
def dkwX13_init_5 : List UInt8 := [167, 255, 240, 177]
abbrev dktX13_init_5 : List UInt8 := dkwX13_init_5 ++ []
def dkwX13_init_4 : List UInt8 := [132, 2, 1, 167, 255, 226, 3, 61, 28, 16, 31, 162, 0, 16, 42, 180, 0, 15, 28, 2, 79, 132, 2, 1]
abbrev dktX13_init_4 : List UInt8 := dkwX13_init_4 ++ dktX13_init_5
def dkwX13_init_3 : List UInt8 := [162, 0, 30, 42, 180, 0, 9, 28, 2, 79, 42, 180, 0, 21, 28, 2, 79, 42, 180, 0, 31, 28, 2, 79]
abbrev dktX13_init_3 : List UInt8 := dkwX13_init_3 ++ dktX13_init_4
def dkwX13_init_2 : List UInt8 := [188, 4, 181, 0, 28, 42, 16, 16, 188, 10, 181, 0, 31, 42, 27, 181, 0, 34, 3, 61, 28, 16, 16]
abbrev dktX13_init_2 : List UInt8 := dkwX13_init_2 ++ dktX13_init_3
def dkwX13_init_1 : List UInt8 := [188, 10, 181, 0, 18, 42, 16, 16, 188, 10, 181, 0, 21, 42, 16, 31, 188, 4, 181, 0, 24, 42, 16, 16]
abbrev dktX13_init_1 : List UInt8 := dkwX13_init_1 ++ dktX13_init_2
def dkwX13_init_0 : List UInt8 := [42, 183, 0, 3, 42, 16, 16, 188, 10, 181, 0, 9, 42, 16, 31, 188, 10, 181, 0, 15, 42, 16, 31]
abbrev dktX13_init_0 : List UInt8 := dkwX13_init_0 ++ dktX13_init_1
theorem dksX13_init_0 : cX13_init.data.toList.drop 0 = dktX13_init_0 := by decide +kernel
theorem dksX13_init_1 : cX13_init.data.toList.drop 23 = dktX13_init_1 := dk_seg dksX13_init_0 23 rfl rfl
theorem dksX13_init_2 : cX13_init.data.toList.drop 47 = dktX13_init_2 := dk_seg dksX13_init_1 24 rfl rfl
theorem dksX13_init_3 : cX13_init.data.toList.drop 70 = dktX13_init_3 := dk_seg dksX13_init_2 23 rfl rfl
theorem dksX13_init_4 : cX13_init.data.toList.drop 94 = dktX13_init_4 := dk_seg dksX13_init_3 24 rfl rfl
theorem dksX13_init_5 : cX13_init.data.toList.drop 118 = dktX13_init_5 := dk_seg dksX13_init_4 24 rfl rfl
theorem dX13_init_0 : decode cX13_init 0 = .ok (.aload_n 0, 1) := dk_42 (dk_at dksX13_init_0 0 rfl rfl)
theorem dX13_init_1 : decode cX13_init 1 = .ok (.invokespecial 3, 3) := dk_183 0 3 (dk_at dksX13_init_0 1 rfl rfl)
theorem dX13_init_4 : decode cX13_init 4 = .ok (.aload_n 0, 1) := dk_42 (dk_at dksX13_init_0 4 rfl rfl)
theorem dX13_init_5 : decode cX13_init 5 = .ok (.bipush 16, 2) := dk_16 16 (dk_at dksX13_init_0 5 rfl rfl)
theorem dX13_init_7 : decode cX13_init 7 = .ok (.newarray .int, 2) := dk_188_10 (dk_at dksX13_init_0 7 rfl rfl)
theorem dX13_init_9 : decode cX13_init 9 = .ok (.putfield 9, 3) := dk_181 0 9 (dk_at dksX13_init_0 9 rfl rfl)
theorem dX13_init_12 : decode cX13_init 12 = .ok (.aload_n 0, 1) := dk_42 (dk_at dksX13_init_0 12 rfl rfl)
theorem dX13_init_13 : decode cX13_init 13 = .ok (.bipush 31, 2) := dk_16 31 (dk_at dksX13_init_0 13 rfl rfl)
theorem dX13_init_15 : decode cX13_init 15 = .ok (.newarray .int, 2) := dk_188_10 (dk_at dksX13_init_0 15 rfl rfl)
theorem dX13_init_17 : decode cX13_init 17 = .ok (.putfield 15, 3) := dk_181 0 15 (dk_at dksX13_init_0 17 rfl rfl)
theorem dX13_init_20 : decode cX13_init 20 = .ok (.aload_n 0, 1) := dk_42 (dk_at dksX13_init_0 20 rfl rfl)
theorem dX13_init_21 : decode cX13_init 21 = .ok (.bipush 31, 2) := dk_16 31 (dk_at dksX13_init_0 21 rfl rfl)
theorem dX13_init_23 : decode cX13_init 23 = .ok (.newarray .int, 2) := dk_188_10 (dk_at dksX13_init_1 0 rfl rfl)
theorem dX13_init_25 : decode cX13_init 25 = .ok (.putfield 18, 3) := dk_181 0 18 (dk_at dksX13_init_1 2 rfl rfl)
theorem dX13_init_28 : decode cX13_init 28 = .ok (.aload_n 0, 1) := dk_42 (dk_at dksX13_init_1 5 rfl rfl)
theorem dX13_init_29 : decode cX13_init 29 = .ok (.bipush 16, 2) := dk_16 16 (dk_at dksX13_init_1 6 rfl rfl)
theorem dX13_init_31 : decode cX13_init 31 = .ok (.newarray .int, 2) := dk_188_10 (dk_at dksX13_init_1 8 rfl rfl)
theorem dX13_init_33 : decode cX13_init 33 = .ok (.putfield 21, 3) := dk_181 0 21 (dk_at dksX13_init_1 10 rfl rfl)
theorem dX13_init_36 : decode cX13_init 36 = .ok (.aload_n 0, 1) := dk_42 (dk_at dksX13_init_1 13 rfl rfl)
theorem dX13_init_37 : decode cX13_init 37 = .ok (.bipush 31, 2) := dk_16 31 (dk_at dksX13_init_1 14 rfl rfl)
theorem dX13_init_39 : decode cX13_init 39 = .ok (.newarray .boolean, 2) := dk_188_4 (dk_at dksX13_init_1 16 rfl rfl)
theorem dX13_init_41 : decode cX13_init 41 = .ok (.putfield 24, 3) := dk_181 0 24 (dk_at dksX13_init_1 18 rfl rfl)
theorem dX13_init_44 : decode cX13_init 44 = .ok (.aload_n 0, 1) := dk_42 (dk_at dksX13_init_1 21 rfl rfl)
theorem dX13_init_45 : decode cX13_init 45 = .ok (.bipush 16, 2) := dk_16 16 (dk_at dksX13_init_1 22 rfl rfl)
theorem dX13_init_47 : decode cX13_init 47 = .ok (.newarray .boolean, 2) := dk_188_4 (dk_at dksX13_init_2 0 rfl rfl)
theorem dX13_init_49 : decode cX13_init 49 = .ok (.putfield 28, 3) := dk_181 0 28 (dk_at dksX13_init_2 2 rfl rfl)
theorem dX13_init_52 : decode cX13_init 52 = .ok (.aload_n 0, 1) := dk_42 (dk_at dksX13_init_2 5 rfl rfl)
theorem dX13_init_53 : decode cX13_init 53 = .ok (.bipush 16, 2) := dk_16 16 (dk_at dksX13_init_2 6 rfl rfl)
theorem dX13_init_55 : decode cX13_init 55 = .ok (.newarray .int, 2) := dk_188_10 (dk_at dksX13_init_2 8 rfl rfl)
theorem dX13_init_57 : decode cX13_init 57 = .ok (.putfield 31, 3) := dk_181 0 31 (dk_at dksX13_init_2 10 rfl rfl)
theorem dX13_init_60 : decode cX13_init 60 = .ok (.aload_n 0, 1) := dk_42 (dk_at dksX13_init_2 13 rfl rfl)
theorem dX13_init_61 : decode cX13_init 61 = .ok (.iload_n 1, 1) := dk_27 (dk_at dksX13_init_2 14 rfl rfl)
theorem dX13_init_62 : decode cX13_init 62 = .ok (.putfield 34, 3) := dk_181 0 34 (dk_at dksX13_init_2 15 rfl rfl)
theorem dX13_init_65 : decode cX13_init 65 = .ok (.iconst 0, 1) := dk_3 (dk_at dksX13_init_2 18 rfl rfl)
theorem dX13_init_66 : decode cX13_init 66 = .ok (.istore_n 2, 1) := dk_61 (dk_at dksX13_init_2 19 rfl rfl)
theorem dX13_init_67 : decode cX13_init 67 = .ok (.iload_n 2, 1) := dk_28 (dk_at dksX13_init_2 20 rfl rfl)
theorem dX13_init_68 : decode cX13_init 68 = .ok (.bipush 16, 2) := dk_16 16 (dk_at dksX13_init_2 21 rfl rfl)
theorem dX13_init_70 : decode cX13_init 70 = .ok (.if_icmp .ge 30, 3) := dk_162 0 30 (dk_at dksX13_init_3 0 rfl rfl)
theorem dX13_init_73 : decode cX13_init 73 = .ok (.aload_n 0, 1) := dk_42 (dk_at dksX13_init_3 3 rfl rfl)
theorem dX13_init_74 : decode cX13_init 74 = .ok (.getfield 9, 3) := dk_180 0 9 (dk_at dksX13_init_3 4 rfl rfl)
theorem dX13_init_77 : decode cX13_init 77 = .ok (.iload_n 2, 1) := dk_28 (dk_at dksX13_init_3 7 rfl rfl)
theorem dX13_init_78 : decode cX13_init 78 = .ok (.iconst (-1), 1) := dk_2 (dk_at dksX13_init_3 8 rfl rfl)
theorem dX13_init_79 : decode cX13_init 79 = .ok (.iastore, 1) := dk_79 (dk_at dksX13_init_3 9 rfl rfl)
theorem dX13_init_80 : decode cX13_init 80 = .ok (.aload_n 0, 1) := dk_42 (dk_at dksX13_init_3 10 rfl rfl)
theorem dX13_init_81 : decode cX13_init 81 = .ok (.getfield 21, 3) := dk_180 0 21 (dk_at dksX13_init_3 11 rfl rfl)
theorem dX13_init_84 : decode cX13_init 84 = .ok (.iload_n 2, 1) := dk_28 (dk_at dksX13_init_3 14 rfl rfl)
theorem dX13_init_85 : decode cX13_init 85 = .ok (.iconst (-1), 1) := dk_2 (dk_at dksX13_init_3 15 rfl rfl)
theorem dX13_init_86 : decode cX13_init 86 = .ok (.iastore, 1) := dk_79 (dk_at dksX13_init_3 16 rfl rfl)
theorem dX13_init_87 : decode cX13_init 87 = .ok (.aload_n 0, 1) := dk_42 (dk_at dksX13_init_3 17 rfl rfl)
theorem dX13_init_88 : decode cX13_init 88 = .ok (.getfield 31, 3) := dk_180 0 31 (dk_at dksX13_init_3 18 rfl rfl)
theorem dX13_init_91 : decode cX13_init 91 = .ok (.iload_n 2, 1) := dk_28 (dk_at dksX13_init_3 21 rfl rfl)
theorem dX13_init_92 : decode cX13_init 92 = .ok (.iconst (-1), 1) := dk_2 (dk_at dksX13_init_3 22 rfl rfl)
theorem dX13_init_93 : decode cX13_init 93 = .ok (.iastore, 1) := dk_79 (dk_at dksX13_init_3 23 rfl rfl)
theorem dX13_init_94 : decode cX13_init 94 = .ok (.iinc 2 1, 3) := dk_132 2 1 (dk_at dksX13_init_4 0 rfl rfl)
theorem dX13_init_97 : decode cX13_init 97 = .ok (.goto (-30), 3) := dk_167 255 226 (dk_at dksX13_init_4 3 rfl rfl)
theorem dX13_init_100 : decode cX13_init 100 = .ok (.iconst 0, 1) := dk_3 (dk_at dksX13_init_4 6 rfl rfl)
theorem dX13_init_101 : decode cX13_init 101 = .ok (.istore_n 2, 1) := dk_61 (dk_at dksX13_init_4 7 rfl rfl)
theorem dX13_init_102 : decode cX13_init 102 = .ok (.iload_n 2, 1) := dk_28 (dk_at dksX13_init_4 8 rfl rfl)
theorem dX13_init_103 : decode cX13_init 103 = .ok (.bipush 31, 2) := dk_16 31 (dk_at dksX13_init_4 9 rfl rfl)
theorem dX13_init_105 : decode cX13_init 105 = .ok (.if_icmp .ge 16, 3) := dk_162 0 16 (dk_at dksX13_init_4 11 rfl rfl)
theorem dX13_init_108 : decode cX13_init 108 = .ok (.aload_n 0, 1) := dk_42 (dk_at dksX13_init_4 14 rfl rfl)
theorem dX13_init_109 : decode cX13_init 109 = .ok (.getfield 15, 3) := dk_180 0 15 (dk_at dksX13_init_4 15 rfl rfl)
theorem dX13_init_112 : decode cX13_init 112 = .ok (.iload_n 2, 1) := dk_28 (dk_at dksX13_init_4 18 rfl rfl)
theorem dX13_init_113 : decode cX13_init 113 = .ok (.iconst (-1), 1) := dk_2 (dk_at dksX13_init_4 19 rfl rfl)
theorem dX13_init_114 : decode cX13_init 114 = .ok (.iastore, 1) := dk_79 (dk_at dksX13_init_4 20 rfl rfl)
theorem dX13_init_115 : decode cX13_init 115 = .ok (.iinc 2 1, 3) := dk_132 2 1 (dk_at dksX13_init_4 21 rfl rfl)
theorem dX13_init_118 : decode cX13_init 118 = .ok (.goto (-16), 3) := dk_167 255 240 (dk_at dksX13_init_5 0 rfl rfl)
theorem dX13_init_121 : decode cX13_init 121 = .ok (.return_, 1) := dk_177 (dk_at dksX13_init_5 3 rfl rfl)
abbrev cX13_next : ByteArray := prog_18_method_2_code
def yX13_next : MethodName := ⟨RX13, "next", "()LKeygroveModel$Epoch;"⟩
def dkwX13_next_3 : List UInt8 := [28, 42, 180, 0, 18, 28, 46, 79, 132, 2, 1, 167, 255, 223, 43, 176]
abbrev dktX13_next_3 : List UInt8 := dkwX13_next_3 ++ []
def dkwX13_next_2 : List UInt8 := [3, 61, 28, 16, 31, 162, 0, 33, 43, 180, 0, 15, 28, 42, 180, 0, 15, 28, 46, 79, 43, 180, 0, 18]
abbrev dktX13_next_2 : List UInt8 := dkwX13_next_2 ++ dktX13_next_3
def dkwX13_next_1 : List UInt8 := [28, 16, 16, 162, 0, 21, 43, 180, 0, 9, 28, 42, 180, 0, 9, 28, 46, 79, 132, 2, 1, 167, 255, 235]
abbrev dktX13_next_1 : List UInt8 := dkwX13_next_1 ++ dktX13_next_2
def dkwX13_next_0 : List UInt8 := [187, 0, 10, 89, 42, 180, 0, 34, 4, 96, 183, 0, 38, 76, 43, 42, 180, 0, 41, 181, 0, 41, 3, 61]
abbrev dktX13_next_0 : List UInt8 := dkwX13_next_0 ++ dktX13_next_1
theorem dksX13_next_0 : cX13_next.data.toList.drop 0 = dktX13_next_0 := by decide +kernel
theorem dksX13_next_1 : cX13_next.data.toList.drop 24 = dktX13_next_1 := dk_seg dksX13_next_0 24 rfl rfl
theorem dksX13_next_2 : cX13_next.data.toList.drop 48 = dktX13_next_2 := dk_seg dksX13_next_1 24 rfl rfl
theorem dksX13_next_3 : cX13_next.data.toList.drop 72 = dktX13_next_3 := dk_seg dksX13_next_2 24 rfl rfl
theorem dX13_next_0 : decode cX13_next 0 = .ok (.new 10, 3) := dk_187 0 10 (dk_at dksX13_next_0 0 rfl rfl)
theorem dX13_next_3 : decode cX13_next 3 = .ok (.dup, 1) := dk_89 (dk_at dksX13_next_0 3 rfl rfl)
theorem dX13_next_4 : decode cX13_next 4 = .ok (.aload_n 0, 1) := dk_42 (dk_at dksX13_next_0 4 rfl rfl)
theorem dX13_next_5 : decode cX13_next 5 = .ok (.getfield 34, 3) := dk_180 0 34 (dk_at dksX13_next_0 5 rfl rfl)
theorem dX13_next_8 : decode cX13_next 8 = .ok (.iconst 1, 1) := dk_4 (dk_at dksX13_next_0 8 rfl rfl)
theorem dX13_next_9 : decode cX13_next 9 = .ok (.iadd, 1) := dk_96 (dk_at dksX13_next_0 9 rfl rfl)
theorem dX13_next_10 : decode cX13_next 10 = .ok (.invokespecial 38, 3) := dk_183 0 38 (dk_at dksX13_next_0 10 rfl rfl)
theorem dX13_next_13 : decode cX13_next 13 = .ok (.astore_n 1, 1) := dk_76 (dk_at dksX13_next_0 13 rfl rfl)
theorem dX13_next_14 : decode cX13_next 14 = .ok (.aload_n 1, 1) := dk_43 (dk_at dksX13_next_0 14 rfl rfl)
theorem dX13_next_15 : decode cX13_next 15 = .ok (.aload_n 0, 1) := dk_42 (dk_at dksX13_next_0 15 rfl rfl)
theorem dX13_next_16 : decode cX13_next 16 = .ok (.getfield 41, 3) := dk_180 0 41 (dk_at dksX13_next_0 16 rfl rfl)
theorem dX13_next_19 : decode cX13_next 19 = .ok (.putfield 41, 3) := dk_181 0 41 (dk_at dksX13_next_0 19 rfl rfl)
theorem dX13_next_22 : decode cX13_next 22 = .ok (.iconst 0, 1) := dk_3 (dk_at dksX13_next_0 22 rfl rfl)
theorem dX13_next_23 : decode cX13_next 23 = .ok (.istore_n 2, 1) := dk_61 (dk_at dksX13_next_0 23 rfl rfl)
theorem dX13_next_24 : decode cX13_next 24 = .ok (.iload_n 2, 1) := dk_28 (dk_at dksX13_next_1 0 rfl rfl)
theorem dX13_next_25 : decode cX13_next 25 = .ok (.bipush 16, 2) := dk_16 16 (dk_at dksX13_next_1 1 rfl rfl)
theorem dX13_next_27 : decode cX13_next 27 = .ok (.if_icmp .ge 21, 3) := dk_162 0 21 (dk_at dksX13_next_1 3 rfl rfl)
theorem dX13_next_30 : decode cX13_next 30 = .ok (.aload_n 1, 1) := dk_43 (dk_at dksX13_next_1 6 rfl rfl)
theorem dX13_next_31 : decode cX13_next 31 = .ok (.getfield 9, 3) := dk_180 0 9 (dk_at dksX13_next_1 7 rfl rfl)
theorem dX13_next_34 : decode cX13_next 34 = .ok (.iload_n 2, 1) := dk_28 (dk_at dksX13_next_1 10 rfl rfl)
theorem dX13_next_35 : decode cX13_next 35 = .ok (.aload_n 0, 1) := dk_42 (dk_at dksX13_next_1 11 rfl rfl)
theorem dX13_next_36 : decode cX13_next 36 = .ok (.getfield 9, 3) := dk_180 0 9 (dk_at dksX13_next_1 12 rfl rfl)
theorem dX13_next_39 : decode cX13_next 39 = .ok (.iload_n 2, 1) := dk_28 (dk_at dksX13_next_1 15 rfl rfl)
theorem dX13_next_40 : decode cX13_next 40 = .ok (.iaload, 1) := dk_46 (dk_at dksX13_next_1 16 rfl rfl)
theorem dX13_next_41 : decode cX13_next 41 = .ok (.iastore, 1) := dk_79 (dk_at dksX13_next_1 17 rfl rfl)
theorem dX13_next_42 : decode cX13_next 42 = .ok (.iinc 2 1, 3) := dk_132 2 1 (dk_at dksX13_next_1 18 rfl rfl)
theorem dX13_next_45 : decode cX13_next 45 = .ok (.goto (-21), 3) := dk_167 255 235 (dk_at dksX13_next_1 21 rfl rfl)
theorem dX13_next_48 : decode cX13_next 48 = .ok (.iconst 0, 1) := dk_3 (dk_at dksX13_next_2 0 rfl rfl)
theorem dX13_next_49 : decode cX13_next 49 = .ok (.istore_n 2, 1) := dk_61 (dk_at dksX13_next_2 1 rfl rfl)
theorem dX13_next_50 : decode cX13_next 50 = .ok (.iload_n 2, 1) := dk_28 (dk_at dksX13_next_2 2 rfl rfl)
theorem dX13_next_51 : decode cX13_next 51 = .ok (.bipush 31, 2) := dk_16 31 (dk_at dksX13_next_2 3 rfl rfl)
theorem dX13_next_53 : decode cX13_next 53 = .ok (.if_icmp .ge 33, 3) := dk_162 0 33 (dk_at dksX13_next_2 5 rfl rfl)
theorem dX13_next_56 : decode cX13_next 56 = .ok (.aload_n 1, 1) := dk_43 (dk_at dksX13_next_2 8 rfl rfl)
theorem dX13_next_57 : decode cX13_next 57 = .ok (.getfield 15, 3) := dk_180 0 15 (dk_at dksX13_next_2 9 rfl rfl)
theorem dX13_next_60 : decode cX13_next 60 = .ok (.iload_n 2, 1) := dk_28 (dk_at dksX13_next_2 12 rfl rfl)
theorem dX13_next_61 : decode cX13_next 61 = .ok (.aload_n 0, 1) := dk_42 (dk_at dksX13_next_2 13 rfl rfl)
theorem dX13_next_62 : decode cX13_next 62 = .ok (.getfield 15, 3) := dk_180 0 15 (dk_at dksX13_next_2 14 rfl rfl)
theorem dX13_next_65 : decode cX13_next 65 = .ok (.iload_n 2, 1) := dk_28 (dk_at dksX13_next_2 17 rfl rfl)
theorem dX13_next_66 : decode cX13_next 66 = .ok (.iaload, 1) := dk_46 (dk_at dksX13_next_2 18 rfl rfl)
theorem dX13_next_67 : decode cX13_next 67 = .ok (.iastore, 1) := dk_79 (dk_at dksX13_next_2 19 rfl rfl)
theorem dX13_next_68 : decode cX13_next 68 = .ok (.aload_n 1, 1) := dk_43 (dk_at dksX13_next_2 20 rfl rfl)
theorem dX13_next_69 : decode cX13_next 69 = .ok (.getfield 18, 3) := dk_180 0 18 (dk_at dksX13_next_2 21 rfl rfl)
theorem dX13_next_72 : decode cX13_next 72 = .ok (.iload_n 2, 1) := dk_28 (dk_at dksX13_next_3 0 rfl rfl)
theorem dX13_next_73 : decode cX13_next 73 = .ok (.aload_n 0, 1) := dk_42 (dk_at dksX13_next_3 1 rfl rfl)
theorem dX13_next_74 : decode cX13_next 74 = .ok (.getfield 18, 3) := dk_180 0 18 (dk_at dksX13_next_3 2 rfl rfl)
theorem dX13_next_77 : decode cX13_next 77 = .ok (.iload_n 2, 1) := dk_28 (dk_at dksX13_next_3 5 rfl rfl)
theorem dX13_next_78 : decode cX13_next 78 = .ok (.iaload, 1) := dk_46 (dk_at dksX13_next_3 6 rfl rfl)
theorem dX13_next_79 : decode cX13_next 79 = .ok (.iastore, 1) := dk_79 (dk_at dksX13_next_3 7 rfl rfl)
theorem dX13_next_80 : decode cX13_next 80 = .ok (.iinc 2 1, 3) := dk_132 2 1 (dk_at dksX13_next_3 8 rfl rfl)
theorem dX13_next_83 : decode cX13_next 83 = .ok (.goto (-33), 3) := dk_167 255 223 (dk_at dksX13_next_3 11 rfl rfl)
theorem dX13_next_86 : decode cX13_next 86 = .ok (.aload_n 1, 1) := dk_43 (dk_at dksX13_next_3 14 rfl rfl)
theorem dX13_next_87 : decode cX13_next 87 = .ok (.areturn, 1) := dk_176 (dk_at dksX13_next_3 15 rfl rfl)
abbrev cX13_nodes : ByteArray := prog_18_method_3_code
def yX13_nodes : MethodName := ⟨RX13, "nodes", "()I"⟩
def dkwX13_nodes_0 : List UInt8 := [5, 42, 180, 0, 41, 104, 4, 100, 172]
abbrev dktX13_nodes_0 : List UInt8 := dkwX13_nodes_0 ++ []
theorem dksX13_nodes_0 : cX13_nodes.data.toList.drop 0 = dktX13_nodes_0 := by decide +kernel
theorem dX13_nodes_0 : decode cX13_nodes 0 = .ok (.iconst 2, 1) := dk_5 (dk_at dksX13_nodes_0 0 rfl rfl)
theorem dX13_nodes_1 : decode cX13_nodes 1 = .ok (.aload_n 0, 1) := dk_42 (dk_at dksX13_nodes_0 1 rfl rfl)
theorem dX13_nodes_2 : decode cX13_nodes 2 = .ok (.getfield 41, 3) := dk_180 0 41 (dk_at dksX13_nodes_0 2 rfl rfl)
theorem dX13_nodes_5 : decode cX13_nodes 5 = .ok (.imul, 1) := dk_104 (dk_at dksX13_nodes_0 5 rfl rfl)
theorem dX13_nodes_6 : decode cX13_nodes 6 = .ok (.iconst 1, 1) := dk_4 (dk_at dksX13_nodes_0 6 rfl rfl)
theorem dX13_nodes_7 : decode cX13_nodes 7 = .ok (.isub, 1) := dk_100 (dk_at dksX13_nodes_0 7 rfl rfl)
theorem dX13_nodes_8 : decode cX13_nodes 8 = .ok (.ireturn, 1) := dk_172 (dk_at dksX13_nodes_0 8 rfl rfl)
theorem q137 : (Jvm.Cond.initialized "KeygroveModel$Epoch") ∈ lw_all := lw_g (lw_at lw_m1 61 rfl) rfl
theorem q748 : (Jvm.Cond.selects "KeygroveModel$Epoch" ({ cls := "java/lang/Object", name := "getClass", desc := "()Ljava/lang/Class;" } : Jvm.MethodName) ({ cls := "java/lang/Object", name := "getClass", desc := "()Ljava/lang/Class;" } : Jvm.MethodName)) ∈ lw_all := lw_g (lw_at lw_m3 192 rfl) rfl
theorem q1280 : (Jvm.Cond.selects "KeygroveModel$Epoch" ({ cls := "java/lang/Object", name := "hashCode", desc := "()I" } : Jvm.MethodName) ({ cls := "java/lang/Object", name := "hashCode", desc := "()I" } : Jvm.MethodName)) ∈ lw_all := lw_g (lw_at lw_m6 4 rfl) rfl
theorem q1381 : (Jvm.Cond.selects "KeygroveModel$Epoch" ({ cls := "java/lang/Object", name := "equals", desc := "(Ljava/lang/Object;)Z" } : Jvm.MethodName) ({ cls := "java/lang/Object", name := "equals", desc := "(Ljava/lang/Object;)Z" } : Jvm.MethodName)) ∈ lw_all := lw_g (lw_at lw_m6 105 rfl) rfl
theorem q3249 : (Jvm.Cond.instantiable "KeygroveModel$Epoch" (11 : Nat)) ∈ lw_all := lw_g (lw_at lw_m14 53 rfl) rfl
theorem q3251 : (Jvm.Cond.instanceMethod ({ cls := "KeygroveModel$Epoch", name := "<init>", desc := "(I)V" } : Jvm.MethodName)) ∈ lw_all := lw_g (lw_at lw_m14 55 rfl) rfl
theorem q3252 : (Jvm.Cond.code ({ cls := "KeygroveModel$Epoch", name := "<init>", desc := "(I)V" } : Jvm.MethodName) prog_18_method_1_code (3 : Nat) (Option.none : Option Jvm.ClassFile.FieldType)) ∈ lw_all := lw_g (lw_at lw_m14 56 rfl) rfl
theorem q3253 : (Jvm.Cond.methodLink "KeygroveModel$Epoch" (3 : Nat) ({ cls := "java/lang/Object", name := "<init>", desc := "()V" } : Jvm.MethodName)) ∈ lw_all := lw_g (lw_at lw_m14 57 rfl) rfl
theorem q3254 : (Jvm.Cond.fieldLink "KeygroveModel$Epoch" (34 : Nat) "KeygroveModel$Epoch" "number" "I") ∈ lw_all := lw_g (lw_at lw_m14 58 rfl) rfl
theorem q3256 : (Jvm.Cond.fieldLink "KeygroveModel$Epoch" (41 : Nat) "KeygroveModel$Epoch" "leaves" "I") ∈ lw_all := lw_g (lw_at lw_m14 60 rfl) rfl
theorem q3260 : (Jvm.Cond.fieldLink "KeygroveModel$Epoch" (9 : Nat) "KeygroveModel$Epoch" "persons" "[I") ∈ lw_all := lw_g (lw_at lw_m14 64 rfl) rfl
theorem q3262 : (Jvm.Cond.fieldLink "KeygroveModel$Epoch" (15 : Nat) "KeygroveModel$Epoch" "node" "[I") ∈ lw_all := lw_g (lw_at lw_m14 66 rfl) rfl
theorem q3264 : (Jvm.Cond.fieldLink "KeygroveModel$Epoch" (18 : Nat) "KeygroveModel$Epoch" "late" "[I") ∈ lw_all := lw_g (lw_at lw_m14 68 rfl) rfl
theorem q3266 : (Jvm.Cond.fieldLink "KeygroveModel$Epoch" (21 : Nat) "KeygroveModel$Epoch" "chains" "[I") ∈ lw_all := lw_g (lw_at lw_m14 70 rfl) rfl
theorem q3268 : (Jvm.Cond.fieldLink "KeygroveModel$Epoch" (24 : Nat) "KeygroveModel$Epoch" "isOnWay" "[Z") ∈ lw_all := lw_g (lw_at lw_m14 72 rfl) rfl
theorem q3270 : (Jvm.Cond.fieldLink "KeygroveModel$Epoch" (28 : Nat) "KeygroveModel$Epoch" "isRemoved" "[Z") ∈ lw_all := lw_g (lw_at lw_m14 74 rfl) rfl
theorem q3272 : (Jvm.Cond.fieldLink "KeygroveModel$Epoch" (31 : Nat) "KeygroveModel$Epoch" "packs" "[I") ∈ lw_all := lw_g (lw_at lw_m14 76 rfl) rfl
theorem q3274 : (Jvm.Cond.laysFinal "KeygroveModel$Epoch" "KeygroveModel$Epoch" "number" "I") ∈ lw_all := lw_g (lw_at lw_m14 78 rfl) rfl
theorem q3275 : (Jvm.Cond.soleField "KeygroveModel$Epoch" "number") ∈ lw_all := lw_g (lw_at lw_m14 79 rfl) rfl
theorem q3276 : (Jvm.Cond.lays "KeygroveModel$Epoch" "KeygroveModel$Epoch" "leaves" "I") ∈ lw_all := lw_g (lw_at lw_m14 80 rfl) rfl
theorem q3277 : (Jvm.Cond.soleField "KeygroveModel$Epoch" "leaves") ∈ lw_all := lw_g (lw_at lw_m14 81 rfl) rfl
theorem q3278 : (Jvm.Cond.lays "KeygroveModel$Epoch" "KeygroveModel$Epoch" "goes" "I") ∈ lw_all := lw_g (lw_at lw_m14 82 rfl) rfl
theorem q3279 : (Jvm.Cond.soleField "KeygroveModel$Epoch" "goes") ∈ lw_all := lw_g (lw_at lw_m14 83 rfl) rfl
theorem q3280 : (Jvm.Cond.lays "KeygroveModel$Epoch" "KeygroveModel$Epoch" "key" "I") ∈ lw_all := lw_g (lw_at lw_m14 84 rfl) rfl
theorem q3281 : (Jvm.Cond.soleField "KeygroveModel$Epoch" "key") ∈ lw_all := lw_g (lw_at lw_m14 85 rfl) rfl
theorem q3282 : (Jvm.Cond.laysFinal "KeygroveModel$Epoch" "KeygroveModel$Epoch" "persons" "[I") ∈ lw_all := lw_g (lw_at lw_m14 86 rfl) rfl
theorem q3283 : (Jvm.Cond.soleField "KeygroveModel$Epoch" "persons") ∈ lw_all := lw_g (lw_at lw_m14 87 rfl) rfl
theorem q3284 : (Jvm.Cond.laysFinal "KeygroveModel$Epoch" "KeygroveModel$Epoch" "node" "[I") ∈ lw_all := lw_g (lw_at lw_m14 88 rfl) rfl
theorem q3285 : (Jvm.Cond.soleField "KeygroveModel$Epoch" "node") ∈ lw_all := lw_g (lw_at lw_m14 89 rfl) rfl
theorem q3286 : (Jvm.Cond.laysFinal "KeygroveModel$Epoch" "KeygroveModel$Epoch" "late" "[I") ∈ lw_all := lw_g (lw_at lw_m14 90 rfl) rfl
theorem q3287 : (Jvm.Cond.soleField "KeygroveModel$Epoch" "late") ∈ lw_all := lw_g (lw_at lw_m14 91 rfl) rfl
theorem q3288 : (Jvm.Cond.laysFinal "KeygroveModel$Epoch" "KeygroveModel$Epoch" "chains" "[I") ∈ lw_all := lw_g (lw_at lw_m14 92 rfl) rfl
theorem q3289 : (Jvm.Cond.soleField "KeygroveModel$Epoch" "chains") ∈ lw_all := lw_g (lw_at lw_m14 93 rfl) rfl
theorem q3290 : (Jvm.Cond.laysFinal "KeygroveModel$Epoch" "KeygroveModel$Epoch" "isOnWay" "[Z") ∈ lw_all := lw_g (lw_at lw_m14 94 rfl) rfl
theorem q3291 : (Jvm.Cond.soleField "KeygroveModel$Epoch" "isOnWay") ∈ lw_all := lw_g (lw_at lw_m14 95 rfl) rfl
theorem q3292 : (Jvm.Cond.laysFinal "KeygroveModel$Epoch" "KeygroveModel$Epoch" "isRemoved" "[Z") ∈ lw_all := lw_g (lw_at lw_m14 96 rfl) rfl
theorem q3293 : (Jvm.Cond.soleField "KeygroveModel$Epoch" "isRemoved") ∈ lw_all := lw_g (lw_at lw_m14 97 rfl) rfl
theorem q3294 : (Jvm.Cond.laysFinal "KeygroveModel$Epoch" "KeygroveModel$Epoch" "packs" "[I") ∈ lw_all := lw_g (lw_at lw_m14 98 rfl) rfl
theorem q3295 : (Jvm.Cond.soleField "KeygroveModel$Epoch" "packs") ∈ lw_all := lw_g (lw_at lw_m14 99 rfl) rfl
theorem q3296 : (Jvm.Cond.superclass "KeygroveModel$Epoch" "java/lang/Object") ∈ lw_all := lw_g (lw_at lw_m14 100 rfl) rfl
theorem q3426 : (Jvm.Cond.instanceMethod ({ cls := "KeygroveModel$Epoch", name := "next", desc := "()LKeygroveModel$Epoch;" } : Jvm.MethodName)) ∈ lw_all := lw_g (lw_at lw_m14 230 rfl) rfl
theorem q3427 : (Jvm.Cond.selects "KeygroveModel$Epoch" ({ cls := "KeygroveModel$Epoch", name := "next", desc := "()LKeygroveModel$Epoch;" } : Jvm.MethodName) ({ cls := "KeygroveModel$Epoch", name := "next", desc := "()LKeygroveModel$Epoch;" } : Jvm.MethodName)) ∈ lw_all := lw_g (lw_at lw_m14 231 rfl) rfl
theorem q3428 : (Jvm.Cond.code ({ cls := "KeygroveModel$Epoch", name := "next", desc := "()LKeygroveModel$Epoch;" } : Jvm.MethodName) prog_18_method_2_code (3 : Nat) (Option.some (Jvm.ClassFile.FieldType.object "KeygroveModel$Epoch"))) ∈ lw_all := lw_g (lw_at lw_m14 232 rfl) rfl
theorem q3429 : (Jvm.Cond.classLink "KeygroveModel$Epoch" (10 : Nat) "KeygroveModel$Epoch") ∈ lw_all := lw_g (lw_at lw_m14 233 rfl) rfl
theorem q3430 : (Jvm.Cond.methodLink "KeygroveModel$Epoch" (38 : Nat) ({ cls := "KeygroveModel$Epoch", name := "<init>", desc := "(I)V" } : Jvm.MethodName)) ∈ lw_all := lw_g (lw_at lw_m14 234 rfl) rfl
theorem q3435 : (Jvm.Cond.instanceMethod ({ cls := "KeygroveModel$Epoch", name := "nodes", desc := "()I" } : Jvm.MethodName)) ∈ lw_all := lw_g (lw_at lw_m14 239 rfl) rfl
theorem q3436 : (Jvm.Cond.selects "KeygroveModel$Epoch" ({ cls := "KeygroveModel$Epoch", name := "nodes", desc := "()I" } : Jvm.MethodName) ({ cls := "KeygroveModel$Epoch", name := "nodes", desc := "()I" } : Jvm.MethodName)) ∈ lw_all := lw_g (lw_at lw_m15 0 rfl) rfl
theorem q3437 : (Jvm.Cond.code ({ cls := "KeygroveModel$Epoch", name := "nodes", desc := "()I" } : Jvm.MethodName) prog_18_method_3_code (1 : Nat) (Option.some Jvm.ClassFile.FieldType.int)) ∈ lw_all := lw_g (lw_at lw_m15 1 rfl) rfl
theorem q3713 : (Jvm.Cond.castable "KeygroveModel$Epoch" "java/lang/Object") ∈ lw_tbl := lw_at lw_m16 37 rfl
theorem in_X13 : ∀ w ∈ wsX130, w ∈ lw_all := lw_in wsX130 [3274, 3276, 3278, 3280, 3282, 3284, 3286, 3288, 3290, 3292, 3294] (by decide +kernel) (by decide +kernel)
/-! KeygroveModel$Chain -/
def RX14 : String := "KeygroveModel$Chain"
def TX14 : u_T := fun k => match k with
  | 0 => ("KeygroveModel$Chain", "secret", "I", false)
  | 1 => ("KeygroveModel$Chain", "place", "I", false)
  | 2 => ("KeygroveModel$Chain", "places", "Ljava/util/ArrayList;", true)
  | _ => ("KeygroveModel$Chain", "keys", "Ljava/util/ArrayList;", true)
def tyX14 : Nat → FieldType := fun k => match k with
  | 0 => .int
  | 1 => .int
  | 2 => .object "java/util/ArrayList"
  | _ => .object "java/util/ArrayList"
abbrev wsX140 : List Cond := u_ws RX14 TX14 4
theorem nmX14 : ∀ a, a < 4 → ∀ b, b < 4 → a ≠ b → (TX14 a).2.1 ≠ (TX14 b).2.1 := by decide +kernel
theorem tyX14_ok : ∀ k, k < 4 → parseFieldDescriptor (TX14 k).2.2.1 = some (tyX14 k) := by decide +kernel
abbrev cX14_init : ByteArray := prog_17_method_1_code
def yX14_init : MethodName := ⟨RX14, "<init>", "(I)V"⟩
def dkwX14_init_1 : List UInt8 := [181, 0, 16, 42, 27, 181, 0, 19, 177]
abbrev dktX14_init_1 : List UInt8 := dkwX14_init_1 ++ []
def dkwX14_init_0 : List UInt8 := [42, 183, 0, 1, 42, 187, 0, 7, 89, 183, 0, 9, 181, 0, 10, 42, 187, 0, 7, 89, 183, 0, 9]
abbrev dktX14_init_0 : List UInt8 := dkwX14_init_0 ++ dktX14_init_1
theorem dksX14_init_0 : cX14_init.data.toList.drop 0 = dktX14_init_0 := by decide +kernel
theorem dksX14_init_1 : cX14_init.data.toList.drop 23 = dktX14_init_1 := dk_seg dksX14_init_0 23 rfl rfl
theorem dX14_init_0 : decode cX14_init 0 = .ok (.aload_n 0, 1) := dk_42 (dk_at dksX14_init_0 0 rfl rfl)
theorem dX14_init_1 : decode cX14_init 1 = .ok (.invokespecial 1, 3) := dk_183 0 1 (dk_at dksX14_init_0 1 rfl rfl)
theorem dX14_init_4 : decode cX14_init 4 = .ok (.aload_n 0, 1) := dk_42 (dk_at dksX14_init_0 4 rfl rfl)
theorem dX14_init_5 : decode cX14_init 5 = .ok (.new 7, 3) := dk_187 0 7 (dk_at dksX14_init_0 5 rfl rfl)
theorem dX14_init_8 : decode cX14_init 8 = .ok (.dup, 1) := dk_89 (dk_at dksX14_init_0 8 rfl rfl)
theorem dX14_init_9 : decode cX14_init 9 = .ok (.invokespecial 9, 3) := dk_183 0 9 (dk_at dksX14_init_0 9 rfl rfl)
theorem dX14_init_12 : decode cX14_init 12 = .ok (.putfield 10, 3) := dk_181 0 10 (dk_at dksX14_init_0 12 rfl rfl)
theorem dX14_init_15 : decode cX14_init 15 = .ok (.aload_n 0, 1) := dk_42 (dk_at dksX14_init_0 15 rfl rfl)
theorem dX14_init_16 : decode cX14_init 16 = .ok (.new 7, 3) := dk_187 0 7 (dk_at dksX14_init_0 16 rfl rfl)
theorem dX14_init_19 : decode cX14_init 19 = .ok (.dup, 1) := dk_89 (dk_at dksX14_init_0 19 rfl rfl)
theorem dX14_init_20 : decode cX14_init 20 = .ok (.invokespecial 9, 3) := dk_183 0 9 (dk_at dksX14_init_0 20 rfl rfl)
theorem dX14_init_23 : decode cX14_init 23 = .ok (.putfield 16, 3) := dk_181 0 16 (dk_at dksX14_init_1 0 rfl rfl)
theorem dX14_init_26 : decode cX14_init 26 = .ok (.aload_n 0, 1) := dk_42 (dk_at dksX14_init_1 3 rfl rfl)
theorem dX14_init_27 : decode cX14_init 27 = .ok (.iload_n 1, 1) := dk_27 (dk_at dksX14_init_1 4 rfl rfl)
theorem dX14_init_28 : decode cX14_init 28 = .ok (.putfield 19, 3) := dk_181 0 19 (dk_at dksX14_init_1 5 rfl rfl)
theorem dX14_init_31 : decode cX14_init 31 = .ok (.return_, 1) := dk_177 (dk_at dksX14_init_1 8 rfl rfl)
theorem q138 : (Jvm.Cond.initialized "KeygroveModel$Chain") ∈ lw_all := lw_g (lw_at lw_m1 62 rfl) rfl
theorem q747 : (Jvm.Cond.selects "KeygroveModel$Chain" ({ cls := "java/lang/Object", name := "getClass", desc := "()Ljava/lang/Class;" } : Jvm.MethodName) ({ cls := "java/lang/Object", name := "getClass", desc := "()Ljava/lang/Class;" } : Jvm.MethodName)) ∈ lw_all := lw_g (lw_at lw_m3 191 rfl) rfl
theorem q1279 : (Jvm.Cond.selects "KeygroveModel$Chain" ({ cls := "java/lang/Object", name := "hashCode", desc := "()I" } : Jvm.MethodName) ({ cls := "java/lang/Object", name := "hashCode", desc := "()I" } : Jvm.MethodName)) ∈ lw_all := lw_g (lw_at lw_m6 3 rfl) rfl
theorem q1380 : (Jvm.Cond.selects "KeygroveModel$Chain" ({ cls := "java/lang/Object", name := "equals", desc := "(Ljava/lang/Object;)Z" } : Jvm.MethodName) ({ cls := "java/lang/Object", name := "equals", desc := "(Ljava/lang/Object;)Z" } : Jvm.MethodName)) ∈ lw_all := lw_g (lw_at lw_m6 104 rfl) rfl
theorem q3311 : (Jvm.Cond.instantiable "KeygroveModel$Chain" (4 : Nat)) ∈ lw_all := lw_g (lw_at lw_m14 115 rfl) rfl
theorem q3313 : (Jvm.Cond.instanceMethod ({ cls := "KeygroveModel$Chain", name := "<init>", desc := "(I)V" } : Jvm.MethodName)) ∈ lw_all := lw_g (lw_at lw_m14 117 rfl) rfl
theorem q3314 : (Jvm.Cond.code ({ cls := "KeygroveModel$Chain", name := "<init>", desc := "(I)V" } : Jvm.MethodName) prog_17_method_1_code (2 : Nat) (Option.none : Option Jvm.ClassFile.FieldType)) ∈ lw_all := lw_g (lw_at lw_m14 118 rfl) rfl
theorem q3315 : (Jvm.Cond.methodLink "KeygroveModel$Chain" (1 : Nat) ({ cls := "java/lang/Object", name := "<init>", desc := "()V" } : Jvm.MethodName)) ∈ lw_all := lw_g (lw_at lw_m14 119 rfl) rfl
theorem q3316 : (Jvm.Cond.classLink "KeygroveModel$Chain" (7 : Nat) "java/util/ArrayList") ∈ lw_all := lw_g (lw_at lw_m14 120 rfl) rfl
theorem q3317 : (Jvm.Cond.methodLink "KeygroveModel$Chain" (9 : Nat) ({ cls := "java/util/ArrayList", name := "<init>", desc := "()V" } : Jvm.MethodName)) ∈ lw_all := lw_g (lw_at lw_m14 121 rfl) rfl
theorem q3318 : (Jvm.Cond.fieldLink "KeygroveModel$Chain" (19 : Nat) "KeygroveModel$Chain" "secret" "I") ∈ lw_all := lw_g (lw_at lw_m14 122 rfl) rfl
theorem q3321 : (Jvm.Cond.fieldLink "KeygroveModel$Chain" (10 : Nat) "KeygroveModel$Chain" "places" "Ljava/util/ArrayList;") ∈ lw_all := lw_g (lw_at lw_m14 125 rfl) rfl
theorem q3323 : (Jvm.Cond.fieldLink "KeygroveModel$Chain" (16 : Nat) "KeygroveModel$Chain" "keys" "Ljava/util/ArrayList;") ∈ lw_all := lw_g (lw_at lw_m14 127 rfl) rfl
theorem q3325 : (Jvm.Cond.lays "KeygroveModel$Chain" "KeygroveModel$Chain" "secret" "I") ∈ lw_all := lw_g (lw_at lw_m14 129 rfl) rfl
theorem q3326 : (Jvm.Cond.soleField "KeygroveModel$Chain" "secret") ∈ lw_all := lw_g (lw_at lw_m14 130 rfl) rfl
theorem q3327 : (Jvm.Cond.lays "KeygroveModel$Chain" "KeygroveModel$Chain" "place" "I") ∈ lw_all := lw_g (lw_at lw_m14 131 rfl) rfl
theorem q3328 : (Jvm.Cond.soleField "KeygroveModel$Chain" "place") ∈ lw_all := lw_g (lw_at lw_m14 132 rfl) rfl
theorem q3329 : (Jvm.Cond.laysFinal "KeygroveModel$Chain" "KeygroveModel$Chain" "places" "Ljava/util/ArrayList;") ∈ lw_all := lw_g (lw_at lw_m14 133 rfl) rfl
theorem q3330 : (Jvm.Cond.soleField "KeygroveModel$Chain" "places") ∈ lw_all := lw_g (lw_at lw_m14 134 rfl) rfl
theorem q3331 : (Jvm.Cond.laysFinal "KeygroveModel$Chain" "KeygroveModel$Chain" "keys" "Ljava/util/ArrayList;") ∈ lw_all := lw_g (lw_at lw_m14 135 rfl) rfl
theorem q3332 : (Jvm.Cond.soleField "KeygroveModel$Chain" "keys") ∈ lw_all := lw_g (lw_at lw_m14 136 rfl) rfl
theorem q3333 : (Jvm.Cond.superclass "KeygroveModel$Chain" "java/lang/Object") ∈ lw_all := lw_g (lw_at lw_m14 137 rfl) rfl
theorem q3677 : (Jvm.Cond.castable "KeygroveModel$Chain" "java/lang/Object") ∈ lw_tbl := lw_at lw_m16 1 rfl
theorem in_X14 : ∀ w ∈ wsX140, w ∈ lw_all := lw_in wsX140 [3325, 3327, 3329, 3331] (by decide +kernel) (by decide +kernel)
/-! Keygrove$Proposal -/
def RX15 : String := "Keygrove$Proposal"
abbrev cX15_init : ByteArray := prog_9_method_1_code
def yX15_init : MethodName := ⟨RX15, "<init>", "()V"⟩
theorem dX15_init_0 : decode cX15_init 0 = .ok (.aload_n 0, 1) := by decide +kernel
theorem dX15_init_1 : decode cX15_init 1 = .ok (.invokespecial 1, 3) := by decide +kernel
theorem dX15_init_4 : decode cX15_init 4 = .ok (.return_, 1) := by decide +kernel
theorem q139 : (Jvm.Cond.initialized "Keygrove$Proposal") ∈ lw_all := lw_g (lw_at lw_m1 63 rfl) rfl
theorem q2398 : (Jvm.Cond.instanceMethod ({ cls := "Keygrove$Proposal", name := "<init>", desc := "()V" } : Jvm.MethodName)) ∈ lw_all := lw_g (lw_at lw_m10 162 rfl) rfl
theorem q2399 : (Jvm.Cond.code ({ cls := "Keygrove$Proposal", name := "<init>", desc := "()V" } : Jvm.MethodName) prog_9_method_1_code (1 : Nat) (Option.none : Option Jvm.ClassFile.FieldType)) ∈ lw_all := lw_g (lw_at lw_m10 163 rfl) rfl
theorem q2400 : (Jvm.Cond.methodLink "Keygrove$Proposal" (1 : Nat) ({ cls := "java/lang/Object", name := "<init>", desc := "()V" } : Jvm.MethodName)) ∈ lw_all := lw_g (lw_at lw_m10 164 rfl) rfl
theorem q2462 : (Jvm.Cond.declares ({ cls := "Keygrove$Proposal", name := "kind", desc := "()C" } : Jvm.MethodName)) ∈ lw_tbl := lw_at lw_m10 226 rfl
theorem q2463 : (Jvm.Cond.sameMethod "Keygrove$Proposal" "Keygrove$Proposal" "kind" "()C") ∈ lw_all := lw_g (lw_at lw_m10 227 rfl) rfl
/-! Keygrove$Add -/
def RX16 : String := "Keygrove$Add"
def TX16 : u_T := fun k => match k with
  | _ => ("Keygrove$Add", "pack", "LKeygrove$Pack;", true)
def tyX16 : Nat → FieldType := fun k => match k with
  | _ => .object "Keygrove$Pack"
abbrev wsX160 : List Cond := u_ws RX16 TX16 1
theorem nmX16 : ∀ a, a < 1 → ∀ b, b < 1 → a ≠ b → (TX16 a).2.1 ≠ (TX16 b).2.1 := by decide +kernel
theorem tyX16_ok : ∀ k, k < 1 → parseFieldDescriptor (TX16 k).2.2.1 = some (tyX16 k) := by decide +kernel
abbrev cX16_init : ByteArray := prog_2_method_1_code
def yX16_init : MethodName := ⟨RX16, "<init>", "(LKeygrove$Pack;)V"⟩
def dkwX16_init_0 : List UInt8 := [42, 183, 0, 1, 42, 43, 181, 0, 7, 177]
abbrev dktX16_init_0 : List UInt8 := dkwX16_init_0 ++ []
theorem dksX16_init_0 : cX16_init.data.toList.drop 0 = dktX16_init_0 := by decide +kernel
theorem dX16_init_0 : decode cX16_init 0 = .ok (.aload_n 0, 1) := dk_42 (dk_at dksX16_init_0 0 rfl rfl)
theorem dX16_init_1 : decode cX16_init 1 = .ok (.invokespecial 1, 3) := dk_183 0 1 (dk_at dksX16_init_0 1 rfl rfl)
theorem dX16_init_4 : decode cX16_init 4 = .ok (.aload_n 0, 1) := dk_42 (dk_at dksX16_init_0 4 rfl rfl)
theorem dX16_init_5 : decode cX16_init 5 = .ok (.aload_n 1, 1) := dk_43 (dk_at dksX16_init_0 5 rfl rfl)
theorem dX16_init_6 : decode cX16_init 6 = .ok (.putfield 7, 3) := dk_181 0 7 (dk_at dksX16_init_0 6 rfl rfl)
theorem dX16_init_9 : decode cX16_init 9 = .ok (.return_, 1) := dk_177 (dk_at dksX16_init_0 9 rfl rfl)
abbrev cX16_kind : ByteArray := prog_2_method_2_code
def yX16_kind : MethodName := ⟨RX16, "kind", "()C"⟩
theorem dX16_kind_0 : decode cX16_kind 0 = .ok (.bipush 97, 2) := by decide +kernel
theorem dX16_kind_2 : decode cX16_kind 2 = .ok (.ireturn, 1) := by decide +kernel
theorem q140 : (Jvm.Cond.initialized "Keygrove$Add") ∈ lw_all := lw_g (lw_at lw_m1 64 rfl) rfl
theorem q734 : (Jvm.Cond.selects "Keygrove$Add" ({ cls := "java/lang/Object", name := "getClass", desc := "()Ljava/lang/Class;" } : Jvm.MethodName) ({ cls := "java/lang/Object", name := "getClass", desc := "()Ljava/lang/Class;" } : Jvm.MethodName)) ∈ lw_all := lw_g (lw_at lw_m3 178 rfl) rfl
theorem q1266 : (Jvm.Cond.selects "Keygrove$Add" ({ cls := "java/lang/Object", name := "hashCode", desc := "()I" } : Jvm.MethodName) ({ cls := "java/lang/Object", name := "hashCode", desc := "()I" } : Jvm.MethodName)) ∈ lw_all := lw_g (lw_at lw_m5 230 rfl) rfl
theorem q1367 : (Jvm.Cond.selects "Keygrove$Add" ({ cls := "java/lang/Object", name := "equals", desc := "(Ljava/lang/Object;)Z" } : Jvm.MethodName) ({ cls := "java/lang/Object", name := "equals", desc := "(Ljava/lang/Object;)Z" } : Jvm.MethodName)) ∈ lw_all := lw_g (lw_at lw_m6 91 rfl) rfl
theorem q2393 : (Jvm.Cond.instantiable "Keygrove$Add" (1 : Nat)) ∈ lw_all := lw_g (lw_at lw_m10 157 rfl) rfl
theorem q2395 : (Jvm.Cond.instanceMethod ({ cls := "Keygrove$Add", name := "<init>", desc := "(LKeygrove$Pack;)V" } : Jvm.MethodName)) ∈ lw_all := lw_g (lw_at lw_m10 159 rfl) rfl
theorem q2396 : (Jvm.Cond.code ({ cls := "Keygrove$Add", name := "<init>", desc := "(LKeygrove$Pack;)V" } : Jvm.MethodName) prog_2_method_1_code (2 : Nat) (Option.none : Option Jvm.ClassFile.FieldType)) ∈ lw_all := lw_g (lw_at lw_m10 160 rfl) rfl
theorem q2397 : (Jvm.Cond.methodLinkNest "Keygrove$Add" (1 : Nat) ({ cls := "Keygrove$Proposal", name := "<init>", desc := "()V" } : Jvm.MethodName) "Keygrove") ∈ lw_tbl := lw_at lw_m10 161 rfl
theorem q2401 : (Jvm.Cond.fieldLink "Keygrove$Add" (7 : Nat) "Keygrove$Add" "pack" "LKeygrove$Pack;") ∈ lw_all := lw_g (lw_at lw_m10 165 rfl) rfl
theorem q2403 : (Jvm.Cond.laysFinal "Keygrove$Add" "Keygrove$Add" "pack" "LKeygrove$Pack;") ∈ lw_all := lw_g (lw_at lw_m10 167 rfl) rfl
theorem q2404 : (Jvm.Cond.soleField "Keygrove$Add" "pack") ∈ lw_all := lw_g (lw_at lw_m10 168 rfl) rfl
theorem q2405 : (Jvm.Cond.superclass "Keygrove$Add" "Keygrove$Proposal") ∈ lw_all := lw_g (lw_at lw_m10 169 rfl) rfl
theorem q2464 : (Jvm.Cond.selects "Keygrove$Add" ({ cls := "Keygrove$Proposal", name := "kind", desc := "()C" } : Jvm.MethodName) ({ cls := "Keygrove$Add", name := "kind", desc := "()C" } : Jvm.MethodName)) ∈ lw_all := lw_g (lw_at lw_m10 228 rfl) rfl
theorem q2465 : (Jvm.Cond.instanceMethod ({ cls := "Keygrove$Add", name := "kind", desc := "()C" } : Jvm.MethodName)) ∈ lw_all := lw_g (lw_at lw_m10 229 rfl) rfl
theorem q2466 : (Jvm.Cond.code ({ cls := "Keygrove$Add", name := "kind", desc := "()C" } : Jvm.MethodName) prog_2_method_2_code (1 : Nat) (Option.some Jvm.ClassFile.FieldType.char)) ∈ lw_all := lw_g (lw_at lw_m10 230 rfl) rfl
theorem q3673 : (Jvm.Cond.castable "Keygrove$Add" "Keygrove$Proposal") ∈ lw_tbl := lw_at lw_m15 237 rfl
theorem q3714 : (Jvm.Cond.castable "Keygrove$Add" "java/lang/Object") ∈ lw_tbl := lw_at lw_m16 38 rfl
theorem in_X16 : ∀ w ∈ wsX160, w ∈ lw_all := lw_in wsX160 [2403] (by decide +kernel) (by decide +kernel)
/-! KeygroveModel$Proposal -/
def RX17 : String := "KeygroveModel$Proposal"
def TX17 : u_T := fun k => match k with
  | 0 => ("KeygroveModel$Proposal", "kind", "C", true)
  | 1 => ("KeygroveModel$Proposal", "person", "I", true)
  | _ => ("KeygroveModel$Proposal", "what", "I", true)
def tyX17 : Nat → FieldType := fun k => match k with
  | 0 => .char
  | 1 => .int
  | _ => .int
abbrev wsX170 : List Cond := u_ws RX17 TX17 3
theorem nmX17 : ∀ a, a < 3 → ∀ b, b < 3 → a ≠ b → (TX17 a).2.1 ≠ (TX17 b).2.1 := by decide +kernel
theorem tyX17_ok : ∀ k, k < 3 → parseFieldDescriptor (TX17 k).2.2.1 = some (tyX17 k) := by decide +kernel
abbrev cX17_init : ByteArray := prog_22_method_1_code
def yX17_init : MethodName := ⟨RX17, "<init>", "(CII)V"⟩
def dkwX17_init_0 : List UInt8 := [42, 183, 0, 1, 42, 27, 181, 0, 7, 42, 28, 181, 0, 13, 42, 29, 181, 0, 17, 177]
abbrev dktX17_init_0 : List UInt8 := dkwX17_init_0 ++ []
theorem dksX17_init_0 : cX17_init.data.toList.drop 0 = dktX17_init_0 := by decide +kernel
theorem dX17_init_0 : decode cX17_init 0 = .ok (.aload_n 0, 1) := dk_42 (dk_at dksX17_init_0 0 rfl rfl)
theorem dX17_init_1 : decode cX17_init 1 = .ok (.invokespecial 1, 3) := dk_183 0 1 (dk_at dksX17_init_0 1 rfl rfl)
theorem dX17_init_4 : decode cX17_init 4 = .ok (.aload_n 0, 1) := dk_42 (dk_at dksX17_init_0 4 rfl rfl)
theorem dX17_init_5 : decode cX17_init 5 = .ok (.iload_n 1, 1) := dk_27 (dk_at dksX17_init_0 5 rfl rfl)
theorem dX17_init_6 : decode cX17_init 6 = .ok (.putfield 7, 3) := dk_181 0 7 (dk_at dksX17_init_0 6 rfl rfl)
theorem dX17_init_9 : decode cX17_init 9 = .ok (.aload_n 0, 1) := dk_42 (dk_at dksX17_init_0 9 rfl rfl)
theorem dX17_init_10 : decode cX17_init 10 = .ok (.iload_n 2, 1) := dk_28 (dk_at dksX17_init_0 10 rfl rfl)
theorem dX17_init_11 : decode cX17_init 11 = .ok (.putfield 13, 3) := dk_181 0 13 (dk_at dksX17_init_0 11 rfl rfl)
theorem dX17_init_14 : decode cX17_init 14 = .ok (.aload_n 0, 1) := dk_42 (dk_at dksX17_init_0 14 rfl rfl)
theorem dX17_init_15 : decode cX17_init 15 = .ok (.iload_n 3, 1) := dk_29 (dk_at dksX17_init_0 15 rfl rfl)
theorem dX17_init_16 : decode cX17_init 16 = .ok (.putfield 17, 3) := dk_181 0 17 (dk_at dksX17_init_0 16 rfl rfl)
theorem dX17_init_19 : decode cX17_init 19 = .ok (.return_, 1) := dk_177 (dk_at dksX17_init_0 19 rfl rfl)
theorem q141 : (Jvm.Cond.initialized "KeygroveModel$Proposal") ∈ lw_all := lw_g (lw_at lw_m1 65 rfl) rfl
theorem q752 : (Jvm.Cond.selects "KeygroveModel$Proposal" ({ cls := "java/lang/Object", name := "getClass", desc := "()Ljava/lang/Class;" } : Jvm.MethodName) ({ cls := "java/lang/Object", name := "getClass", desc := "()Ljava/lang/Class;" } : Jvm.MethodName)) ∈ lw_all := lw_g (lw_at lw_m3 196 rfl) rfl
theorem q1284 : (Jvm.Cond.selects "KeygroveModel$Proposal" ({ cls := "java/lang/Object", name := "hashCode", desc := "()I" } : Jvm.MethodName) ({ cls := "java/lang/Object", name := "hashCode", desc := "()I" } : Jvm.MethodName)) ∈ lw_all := lw_g (lw_at lw_m6 8 rfl) rfl
theorem q1385 : (Jvm.Cond.selects "KeygroveModel$Proposal" ({ cls := "java/lang/Object", name := "equals", desc := "(Ljava/lang/Object;)Z" } : Jvm.MethodName) ({ cls := "java/lang/Object", name := "equals", desc := "(Ljava/lang/Object;)Z" } : Jvm.MethodName)) ∈ lw_all := lw_g (lw_at lw_m6 109 rfl) rfl
theorem q3387 : (Jvm.Cond.instantiable "KeygroveModel$Proposal" (3 : Nat)) ∈ lw_all := lw_g (lw_at lw_m14 191 rfl) rfl
theorem q3389 : (Jvm.Cond.instanceMethod ({ cls := "KeygroveModel$Proposal", name := "<init>", desc := "(CII)V" } : Jvm.MethodName)) ∈ lw_all := lw_g (lw_at lw_m14 193 rfl) rfl
theorem q3390 : (Jvm.Cond.code ({ cls := "KeygroveModel$Proposal", name := "<init>", desc := "(CII)V" } : Jvm.MethodName) prog_22_method_1_code (4 : Nat) (Option.none : Option Jvm.ClassFile.FieldType)) ∈ lw_all := lw_g (lw_at lw_m14 194 rfl) rfl
theorem q3391 : (Jvm.Cond.methodLink "KeygroveModel$Proposal" (1 : Nat) ({ cls := "java/lang/Object", name := "<init>", desc := "()V" } : Jvm.MethodName)) ∈ lw_all := lw_g (lw_at lw_m14 195 rfl) rfl
theorem q3392 : (Jvm.Cond.fieldLink "KeygroveModel$Proposal" (7 : Nat) "KeygroveModel$Proposal" "kind" "C") ∈ lw_all := lw_g (lw_at lw_m14 196 rfl) rfl
theorem q3394 : (Jvm.Cond.fieldLink "KeygroveModel$Proposal" (13 : Nat) "KeygroveModel$Proposal" "person" "I") ∈ lw_all := lw_g (lw_at lw_m14 198 rfl) rfl
theorem q3396 : (Jvm.Cond.fieldLink "KeygroveModel$Proposal" (17 : Nat) "KeygroveModel$Proposal" "what" "I") ∈ lw_all := lw_g (lw_at lw_m14 200 rfl) rfl
theorem q3398 : (Jvm.Cond.laysFinal "KeygroveModel$Proposal" "KeygroveModel$Proposal" "kind" "C") ∈ lw_all := lw_g (lw_at lw_m14 202 rfl) rfl
theorem q3399 : (Jvm.Cond.soleField "KeygroveModel$Proposal" "kind") ∈ lw_all := lw_g (lw_at lw_m14 203 rfl) rfl
theorem q3400 : (Jvm.Cond.laysFinal "KeygroveModel$Proposal" "KeygroveModel$Proposal" "person" "I") ∈ lw_all := lw_g (lw_at lw_m14 204 rfl) rfl
theorem q3401 : (Jvm.Cond.soleField "KeygroveModel$Proposal" "person") ∈ lw_all := lw_g (lw_at lw_m14 205 rfl) rfl
theorem q3402 : (Jvm.Cond.laysFinal "KeygroveModel$Proposal" "KeygroveModel$Proposal" "what" "I") ∈ lw_all := lw_g (lw_at lw_m14 206 rfl) rfl
theorem q3403 : (Jvm.Cond.soleField "KeygroveModel$Proposal" "what") ∈ lw_all := lw_g (lw_at lw_m14 207 rfl) rfl
theorem q3404 : (Jvm.Cond.superclass "KeygroveModel$Proposal" "java/lang/Object") ∈ lw_all := lw_g (lw_at lw_m14 208 rfl) rfl
theorem q3715 : (Jvm.Cond.castable "KeygroveModel$Proposal" "java/lang/Object") ∈ lw_tbl := lw_at lw_m16 39 rfl
theorem in_X17 : ∀ w ∈ wsX170, w ∈ lw_all := lw_in wsX170 [3398, 3400, 3402] (by decide +kernel) (by decide +kernel)
/-! Keygrove$Remove -/
def RX18 : String := "Keygrove$Remove"
def TX18 : u_T := fun k => match k with
  | _ => ("Keygrove$Remove", "leaf", "I", true)
def tyX18 : Nat → FieldType := fun k => match k with
  | _ => .int
abbrev wsX180 : List Cond := u_ws RX18 TX18 1
theorem nmX18 : ∀ a, a < 1 → ∀ b, b < 1 → a ≠ b → (TX18 a).2.1 ≠ (TX18 b).2.1 := by decide +kernel
theorem tyX18_ok : ∀ k, k < 1 → parseFieldDescriptor (TX18 k).2.2.1 = some (tyX18 k) := by decide +kernel
abbrev cX18_init : ByteArray := prog_10_method_1_code
def yX18_init : MethodName := ⟨RX18, "<init>", "(I)V"⟩
def dkwX18_init_0 : List UInt8 := [42, 183, 0, 1, 42, 27, 181, 0, 7, 177]
abbrev dktX18_init_0 : List UInt8 := dkwX18_init_0 ++ []
theorem dksX18_init_0 : cX18_init.data.toList.drop 0 = dktX18_init_0 := by decide +kernel
theorem dX18_init_0 : decode cX18_init 0 = .ok (.aload_n 0, 1) := dk_42 (dk_at dksX18_init_0 0 rfl rfl)
theorem dX18_init_1 : decode cX18_init 1 = .ok (.invokespecial 1, 3) := dk_183 0 1 (dk_at dksX18_init_0 1 rfl rfl)
theorem dX18_init_4 : decode cX18_init 4 = .ok (.aload_n 0, 1) := dk_42 (dk_at dksX18_init_0 4 rfl rfl)
theorem dX18_init_5 : decode cX18_init 5 = .ok (.iload_n 1, 1) := dk_27 (dk_at dksX18_init_0 5 rfl rfl)
theorem dX18_init_6 : decode cX18_init 6 = .ok (.putfield 7, 3) := dk_181 0 7 (dk_at dksX18_init_0 6 rfl rfl)
theorem dX18_init_9 : decode cX18_init 9 = .ok (.return_, 1) := dk_177 (dk_at dksX18_init_0 9 rfl rfl)
abbrev cX18_kind : ByteArray := prog_10_method_2_code
def yX18_kind : MethodName := ⟨RX18, "kind", "()C"⟩
theorem dX18_kind_0 : decode cX18_kind 0 = .ok (.bipush 114, 2) := by decide +kernel
theorem dX18_kind_2 : decode cX18_kind 2 = .ok (.ireturn, 1) := by decide +kernel
theorem q142 : (Jvm.Cond.initialized "Keygrove$Remove") ∈ lw_all := lw_g (lw_at lw_m1 66 rfl) rfl
theorem q741 : (Jvm.Cond.selects "Keygrove$Remove" ({ cls := "java/lang/Object", name := "getClass", desc := "()Ljava/lang/Class;" } : Jvm.MethodName) ({ cls := "java/lang/Object", name := "getClass", desc := "()Ljava/lang/Class;" } : Jvm.MethodName)) ∈ lw_all := lw_g (lw_at lw_m3 185 rfl) rfl
theorem q1273 : (Jvm.Cond.selects "Keygrove$Remove" ({ cls := "java/lang/Object", name := "hashCode", desc := "()I" } : Jvm.MethodName) ({ cls := "java/lang/Object", name := "hashCode", desc := "()I" } : Jvm.MethodName)) ∈ lw_all := lw_g (lw_at lw_m5 237 rfl) rfl
theorem q1374 : (Jvm.Cond.selects "Keygrove$Remove" ({ cls := "java/lang/Object", name := "equals", desc := "(Ljava/lang/Object;)Z" } : Jvm.MethodName) ({ cls := "java/lang/Object", name := "equals", desc := "(Ljava/lang/Object;)Z" } : Jvm.MethodName)) ∈ lw_all := lw_g (lw_at lw_m6 98 rfl) rfl
theorem q2422 : (Jvm.Cond.instantiable "Keygrove$Remove" (1 : Nat)) ∈ lw_all := lw_g (lw_at lw_m10 186 rfl) rfl
theorem q2424 : (Jvm.Cond.instanceMethod ({ cls := "Keygrove$Remove", name := "<init>", desc := "(I)V" } : Jvm.MethodName)) ∈ lw_all := lw_g (lw_at lw_m10 188 rfl) rfl
theorem q2425 : (Jvm.Cond.code ({ cls := "Keygrove$Remove", name := "<init>", desc := "(I)V" } : Jvm.MethodName) prog_10_method_1_code (2 : Nat) (Option.none : Option Jvm.ClassFile.FieldType)) ∈ lw_all := lw_g (lw_at lw_m10 189 rfl) rfl
theorem q2426 : (Jvm.Cond.methodLinkNest "Keygrove$Remove" (1 : Nat) ({ cls := "Keygrove$Proposal", name := "<init>", desc := "()V" } : Jvm.MethodName) "Keygrove") ∈ lw_tbl := lw_at lw_m10 190 rfl
theorem q2427 : (Jvm.Cond.fieldLink "Keygrove$Remove" (7 : Nat) "Keygrove$Remove" "leaf" "I") ∈ lw_all := lw_g (lw_at lw_m10 191 rfl) rfl
theorem q2429 : (Jvm.Cond.laysFinal "Keygrove$Remove" "Keygrove$Remove" "leaf" "I") ∈ lw_all := lw_g (lw_at lw_m10 193 rfl) rfl
theorem q2430 : (Jvm.Cond.soleField "Keygrove$Remove" "leaf") ∈ lw_all := lw_g (lw_at lw_m10 194 rfl) rfl
theorem q2431 : (Jvm.Cond.superclass "Keygrove$Remove" "Keygrove$Proposal") ∈ lw_all := lw_g (lw_at lw_m10 195 rfl) rfl
theorem q2467 : (Jvm.Cond.selects "Keygrove$Remove" ({ cls := "Keygrove$Proposal", name := "kind", desc := "()C" } : Jvm.MethodName) ({ cls := "Keygrove$Remove", name := "kind", desc := "()C" } : Jvm.MethodName)) ∈ lw_all := lw_g (lw_at lw_m10 231 rfl) rfl
theorem q2468 : (Jvm.Cond.instanceMethod ({ cls := "Keygrove$Remove", name := "kind", desc := "()C" } : Jvm.MethodName)) ∈ lw_all := lw_g (lw_at lw_m10 232 rfl) rfl
theorem q2469 : (Jvm.Cond.code ({ cls := "Keygrove$Remove", name := "kind", desc := "()C" } : Jvm.MethodName) prog_10_method_2_code (1 : Nat) (Option.some Jvm.ClassFile.FieldType.char)) ∈ lw_all := lw_g (lw_at lw_m10 233 rfl) rfl
theorem q3674 : (Jvm.Cond.castable "Keygrove$Remove" "Keygrove$Proposal") ∈ lw_tbl := lw_at lw_m15 238 rfl
theorem q3716 : (Jvm.Cond.castable "Keygrove$Remove" "java/lang/Object") ∈ lw_tbl := lw_at lw_m16 40 rfl
theorem in_X18 : ∀ w ∈ wsX180, w ∈ lw_all := lw_in wsX180 [2429] (by decide +kernel) (by decide +kernel)
/-! Keygrove$Renew -/
def RX19 : String := "Keygrove$Renew"
def TX19 : u_T := fun k => match k with
  | 0 => ("Keygrove$Renew", "leaf", "I", true)
  | _ => ("Keygrove$Renew", "secret", "I", true)
def tyX19 : Nat → FieldType := fun k => match k with
  | 0 => .int
  | _ => .int
abbrev wsX190 : List Cond := u_ws RX19 TX19 2
theorem nmX19 : ∀ a, a < 2 → ∀ b, b < 2 → a ≠ b → (TX19 a).2.1 ≠ (TX19 b).2.1 := by decide +kernel
theorem tyX19_ok : ∀ k, k < 2 → parseFieldDescriptor (TX19 k).2.2.1 = some (tyX19 k) := by decide +kernel
abbrev cX19_init : ByteArray := prog_11_method_1_code
def yX19_init : MethodName := ⟨RX19, "<init>", "(II)V"⟩
def dkwX19_init_0 : List UInt8 := [42, 183, 0, 1, 42, 27, 181, 0, 7, 42, 28, 181, 0, 13, 177]
abbrev dktX19_init_0 : List UInt8 := dkwX19_init_0 ++ []
theorem dksX19_init_0 : cX19_init.data.toList.drop 0 = dktX19_init_0 := by decide +kernel
theorem dX19_init_0 : decode cX19_init 0 = .ok (.aload_n 0, 1) := dk_42 (dk_at dksX19_init_0 0 rfl rfl)
theorem dX19_init_1 : decode cX19_init 1 = .ok (.invokespecial 1, 3) := dk_183 0 1 (dk_at dksX19_init_0 1 rfl rfl)
theorem dX19_init_4 : decode cX19_init 4 = .ok (.aload_n 0, 1) := dk_42 (dk_at dksX19_init_0 4 rfl rfl)
theorem dX19_init_5 : decode cX19_init 5 = .ok (.iload_n 1, 1) := dk_27 (dk_at dksX19_init_0 5 rfl rfl)
theorem dX19_init_6 : decode cX19_init 6 = .ok (.putfield 7, 3) := dk_181 0 7 (dk_at dksX19_init_0 6 rfl rfl)
theorem dX19_init_9 : decode cX19_init 9 = .ok (.aload_n 0, 1) := dk_42 (dk_at dksX19_init_0 9 rfl rfl)
theorem dX19_init_10 : decode cX19_init 10 = .ok (.iload_n 2, 1) := dk_28 (dk_at dksX19_init_0 10 rfl rfl)
theorem dX19_init_11 : decode cX19_init 11 = .ok (.putfield 13, 3) := dk_181 0 13 (dk_at dksX19_init_0 11 rfl rfl)
theorem dX19_init_14 : decode cX19_init 14 = .ok (.return_, 1) := dk_177 (dk_at dksX19_init_0 14 rfl rfl)
abbrev cX19_kind : ByteArray := prog_11_method_2_code
def yX19_kind : MethodName := ⟨RX19, "kind", "()C"⟩
theorem dX19_kind_0 : decode cX19_kind 0 = .ok (.bipush 110, 2) := by decide +kernel
theorem dX19_kind_2 : decode cX19_kind 2 = .ok (.ireturn, 1) := by decide +kernel
theorem q143 : (Jvm.Cond.initialized "Keygrove$Renew") ∈ lw_all := lw_g (lw_at lw_m1 67 rfl) rfl
theorem q742 : (Jvm.Cond.selects "Keygrove$Renew" ({ cls := "java/lang/Object", name := "getClass", desc := "()Ljava/lang/Class;" } : Jvm.MethodName) ({ cls := "java/lang/Object", name := "getClass", desc := "()Ljava/lang/Class;" } : Jvm.MethodName)) ∈ lw_all := lw_g (lw_at lw_m3 186 rfl) rfl
theorem q1274 : (Jvm.Cond.selects "Keygrove$Renew" ({ cls := "java/lang/Object", name := "hashCode", desc := "()I" } : Jvm.MethodName) ({ cls := "java/lang/Object", name := "hashCode", desc := "()I" } : Jvm.MethodName)) ∈ lw_all := lw_g (lw_at lw_m5 238 rfl) rfl
theorem q1375 : (Jvm.Cond.selects "Keygrove$Renew" ({ cls := "java/lang/Object", name := "equals", desc := "(Ljava/lang/Object;)Z" } : Jvm.MethodName) ({ cls := "java/lang/Object", name := "equals", desc := "(Ljava/lang/Object;)Z" } : Jvm.MethodName)) ∈ lw_all := lw_g (lw_at lw_m6 99 rfl) rfl
theorem q2440 : (Jvm.Cond.instantiable "Keygrove$Renew" (2 : Nat)) ∈ lw_all := lw_g (lw_at lw_m10 204 rfl) rfl
theorem q2442 : (Jvm.Cond.instanceMethod ({ cls := "Keygrove$Renew", name := "<init>", desc := "(II)V" } : Jvm.MethodName)) ∈ lw_all := lw_g (lw_at lw_m10 206 rfl) rfl
theorem q2443 : (Jvm.Cond.code ({ cls := "Keygrove$Renew", name := "<init>", desc := "(II)V" } : Jvm.MethodName) prog_11_method_1_code (3 : Nat) (Option.none : Option Jvm.ClassFile.FieldType)) ∈ lw_all := lw_g (lw_at lw_m10 207 rfl) rfl
theorem q2444 : (Jvm.Cond.methodLinkNest "Keygrove$Renew" (1 : Nat) ({ cls := "Keygrove$Proposal", name := "<init>", desc := "()V" } : Jvm.MethodName) "Keygrove") ∈ lw_tbl := lw_at lw_m10 208 rfl
theorem q2445 : (Jvm.Cond.fieldLink "Keygrove$Renew" (7 : Nat) "Keygrove$Renew" "leaf" "I") ∈ lw_all := lw_g (lw_at lw_m10 209 rfl) rfl
theorem q2447 : (Jvm.Cond.fieldLink "Keygrove$Renew" (13 : Nat) "Keygrove$Renew" "secret" "I") ∈ lw_all := lw_g (lw_at lw_m10 211 rfl) rfl
theorem q2449 : (Jvm.Cond.laysFinal "Keygrove$Renew" "Keygrove$Renew" "leaf" "I") ∈ lw_all := lw_g (lw_at lw_m10 213 rfl) rfl
theorem q2450 : (Jvm.Cond.soleField "Keygrove$Renew" "leaf") ∈ lw_all := lw_g (lw_at lw_m10 214 rfl) rfl
theorem q2451 : (Jvm.Cond.laysFinal "Keygrove$Renew" "Keygrove$Renew" "secret" "I") ∈ lw_all := lw_g (lw_at lw_m10 215 rfl) rfl
theorem q2452 : (Jvm.Cond.soleField "Keygrove$Renew" "secret") ∈ lw_all := lw_g (lw_at lw_m10 216 rfl) rfl
theorem q2453 : (Jvm.Cond.superclass "Keygrove$Renew" "Keygrove$Proposal") ∈ lw_all := lw_g (lw_at lw_m10 217 rfl) rfl
theorem q2470 : (Jvm.Cond.selects "Keygrove$Renew" ({ cls := "Keygrove$Proposal", name := "kind", desc := "()C" } : Jvm.MethodName) ({ cls := "Keygrove$Renew", name := "kind", desc := "()C" } : Jvm.MethodName)) ∈ lw_all := lw_g (lw_at lw_m10 234 rfl) rfl
theorem q2471 : (Jvm.Cond.instanceMethod ({ cls := "Keygrove$Renew", name := "kind", desc := "()C" } : Jvm.MethodName)) ∈ lw_all := lw_g (lw_at lw_m10 235 rfl) rfl
theorem q2472 : (Jvm.Cond.code ({ cls := "Keygrove$Renew", name := "kind", desc := "()C" } : Jvm.MethodName) prog_11_method_2_code (1 : Nat) (Option.some Jvm.ClassFile.FieldType.char)) ∈ lw_all := lw_g (lw_at lw_m10 236 rfl) rfl
theorem q3675 : (Jvm.Cond.castable "Keygrove$Renew" "Keygrove$Proposal") ∈ lw_tbl := lw_at lw_m15 239 rfl
theorem q3717 : (Jvm.Cond.castable "Keygrove$Renew" "java/lang/Object") ∈ lw_tbl := lw_at lw_m16 41 rfl
theorem in_X19 : ∀ w ∈ wsX190, w ∈ lw_all := lw_in wsX190 [2449, 2451] (by decide +kernel) (by decide +kernel)
/-! KeygroveModel$Box -/
def RX20 : String := "KeygroveModel$Box"
def TX20 : u_T := fun k => match k with
  | 0 => ("KeygroveModel$Box", "opener", "I", true)
  | _ => ("KeygroveModel$Box", "inside", "I", true)
def tyX20 : Nat → FieldType := fun k => match k with
  | 0 => .int
  | _ => .int
abbrev wsX200 : List Cond := u_ws RX20 TX20 2
theorem nmX20 : ∀ a, a < 2 → ∀ b, b < 2 → a ≠ b → (TX20 a).2.1 ≠ (TX20 b).2.1 := by decide +kernel
theorem tyX20_ok : ∀ k, k < 2 → parseFieldDescriptor (TX20 k).2.2.1 = some (tyX20 k) := by decide +kernel
abbrev cX20_init : ByteArray := prog_16_method_1_code
def yX20_init : MethodName := ⟨RX20, "<init>", "(II)V"⟩
def dkwX20_init_0 : List UInt8 := [42, 183, 0, 1, 42, 27, 181, 0, 7, 42, 28, 181, 0, 13, 177]
abbrev dktX20_init_0 : List UInt8 := dkwX20_init_0 ++ []
theorem dksX20_init_0 : cX20_init.data.toList.drop 0 = dktX20_init_0 := by decide +kernel
theorem dX20_init_0 : decode cX20_init 0 = .ok (.aload_n 0, 1) := dk_42 (dk_at dksX20_init_0 0 rfl rfl)
theorem dX20_init_1 : decode cX20_init 1 = .ok (.invokespecial 1, 3) := dk_183 0 1 (dk_at dksX20_init_0 1 rfl rfl)
theorem dX20_init_4 : decode cX20_init 4 = .ok (.aload_n 0, 1) := dk_42 (dk_at dksX20_init_0 4 rfl rfl)
theorem dX20_init_5 : decode cX20_init 5 = .ok (.iload_n 1, 1) := dk_27 (dk_at dksX20_init_0 5 rfl rfl)
theorem dX20_init_6 : decode cX20_init 6 = .ok (.putfield 7, 3) := dk_181 0 7 (dk_at dksX20_init_0 6 rfl rfl)
theorem dX20_init_9 : decode cX20_init 9 = .ok (.aload_n 0, 1) := dk_42 (dk_at dksX20_init_0 9 rfl rfl)
theorem dX20_init_10 : decode cX20_init 10 = .ok (.iload_n 2, 1) := dk_28 (dk_at dksX20_init_0 10 rfl rfl)
theorem dX20_init_11 : decode cX20_init 11 = .ok (.putfield 13, 3) := dk_181 0 13 (dk_at dksX20_init_0 11 rfl rfl)
theorem dX20_init_14 : decode cX20_init 14 = .ok (.return_, 1) := dk_177 (dk_at dksX20_init_0 14 rfl rfl)
theorem q146 : (Jvm.Cond.initialized "KeygroveModel$Box") ∈ lw_all := lw_g (lw_at lw_m1 70 rfl) rfl
theorem q746 : (Jvm.Cond.selects "KeygroveModel$Box" ({ cls := "java/lang/Object", name := "getClass", desc := "()Ljava/lang/Class;" } : Jvm.MethodName) ({ cls := "java/lang/Object", name := "getClass", desc := "()Ljava/lang/Class;" } : Jvm.MethodName)) ∈ lw_all := lw_g (lw_at lw_m3 190 rfl) rfl
theorem q1278 : (Jvm.Cond.selects "KeygroveModel$Box" ({ cls := "java/lang/Object", name := "hashCode", desc := "()I" } : Jvm.MethodName) ({ cls := "java/lang/Object", name := "hashCode", desc := "()I" } : Jvm.MethodName)) ∈ lw_all := lw_g (lw_at lw_m6 2 rfl) rfl
theorem q1379 : (Jvm.Cond.selects "KeygroveModel$Box" ({ cls := "java/lang/Object", name := "equals", desc := "(Ljava/lang/Object;)Z" } : Jvm.MethodName) ({ cls := "java/lang/Object", name := "equals", desc := "(Ljava/lang/Object;)Z" } : Jvm.MethodName)) ∈ lw_all := lw_g (lw_at lw_m6 103 rfl) rfl
theorem q3477 : (Jvm.Cond.instantiable "KeygroveModel$Box" (2 : Nat)) ∈ lw_all := lw_g (lw_at lw_m15 41 rfl) rfl
theorem q3479 : (Jvm.Cond.instanceMethod ({ cls := "KeygroveModel$Box", name := "<init>", desc := "(II)V" } : Jvm.MethodName)) ∈ lw_all := lw_g (lw_at lw_m15 43 rfl) rfl
theorem q3480 : (Jvm.Cond.code ({ cls := "KeygroveModel$Box", name := "<init>", desc := "(II)V" } : Jvm.MethodName) prog_16_method_1_code (3 : Nat) (Option.none : Option Jvm.ClassFile.FieldType)) ∈ lw_all := lw_g (lw_at lw_m15 44 rfl) rfl
theorem q3481 : (Jvm.Cond.methodLink "KeygroveModel$Box" (1 : Nat) ({ cls := "java/lang/Object", name := "<init>", desc := "()V" } : Jvm.MethodName)) ∈ lw_all := lw_g (lw_at lw_m15 45 rfl) rfl
theorem q3482 : (Jvm.Cond.fieldLink "KeygroveModel$Box" (7 : Nat) "KeygroveModel$Box" "opener" "I") ∈ lw_all := lw_g (lw_at lw_m15 46 rfl) rfl
theorem q3484 : (Jvm.Cond.fieldLink "KeygroveModel$Box" (13 : Nat) "KeygroveModel$Box" "inside" "I") ∈ lw_all := lw_g (lw_at lw_m15 48 rfl) rfl
theorem q3486 : (Jvm.Cond.laysFinal "KeygroveModel$Box" "KeygroveModel$Box" "opener" "I") ∈ lw_all := lw_g (lw_at lw_m15 50 rfl) rfl
theorem q3487 : (Jvm.Cond.soleField "KeygroveModel$Box" "opener") ∈ lw_all := lw_g (lw_at lw_m15 51 rfl) rfl
theorem q3488 : (Jvm.Cond.laysFinal "KeygroveModel$Box" "KeygroveModel$Box" "inside" "I") ∈ lw_all := lw_g (lw_at lw_m15 52 rfl) rfl
theorem q3489 : (Jvm.Cond.soleField "KeygroveModel$Box" "inside") ∈ lw_all := lw_g (lw_at lw_m15 53 rfl) rfl
theorem q3490 : (Jvm.Cond.superclass "KeygroveModel$Box" "java/lang/Object") ∈ lw_all := lw_g (lw_at lw_m15 54 rfl) rfl
theorem q3722 : (Jvm.Cond.castable "KeygroveModel$Box" "java/lang/Object") ∈ lw_tbl := lw_at lw_m16 46 rfl
theorem in_X20 : ∀ w ∈ wsX200, w ∈ lw_all := lw_in wsX200 [3486, 3488] (by decide +kernel) (by decide +kernel)
/-! Keygrove$Message -/
def RX21 : String := "Keygrove$Message"
def TX21 : u_T := fun k => match k with
  | 0 => ("Keygrove$Message", "epoch", "I", true)
  | 1 => ("Keygrove$Message", "leaf", "I", true)
  | 2 => ("Keygrove$Message", "place", "I", true)
  | _ => ("Keygrove$Message", "text", "I", true)
def tyX21 : Nat → FieldType := fun k => match k with
  | 0 => .int
  | 1 => .int
  | 2 => .int
  | _ => .int
abbrev wsX210 : List Cond := u_ws RX21 TX21 4
theorem nmX21 : ∀ a, a < 4 → ∀ b, b < 4 → a ≠ b → (TX21 a).2.1 ≠ (TX21 b).2.1 := by decide +kernel
theorem tyX21_ok : ∀ k, k < 4 → parseFieldDescriptor (TX21 k).2.2.1 = some (tyX21 k) := by decide +kernel
abbrev cX21_init : ByteArray := prog_5_method_1_code
def yX21_init : MethodName := ⟨RX21, "<init>", "(IIII)V"⟩
def dkwX21_init_1 : List UInt8 := [181, 0, 19, 177]
abbrev dktX21_init_1 : List UInt8 := dkwX21_init_1 ++ []
def dkwX21_init_0 : List UInt8 := [42, 183, 0, 1, 42, 27, 181, 0, 7, 42, 28, 181, 0, 13, 42, 29, 181, 0, 16, 42, 21, 4]
abbrev dktX21_init_0 : List UInt8 := dkwX21_init_0 ++ dktX21_init_1
theorem dksX21_init_0 : cX21_init.data.toList.drop 0 = dktX21_init_0 := by decide +kernel
theorem dksX21_init_1 : cX21_init.data.toList.drop 22 = dktX21_init_1 := dk_seg dksX21_init_0 22 rfl rfl
theorem dX21_init_0 : decode cX21_init 0 = .ok (.aload_n 0, 1) := dk_42 (dk_at dksX21_init_0 0 rfl rfl)
theorem dX21_init_1 : decode cX21_init 1 = .ok (.invokespecial 1, 3) := dk_183 0 1 (dk_at dksX21_init_0 1 rfl rfl)
theorem dX21_init_4 : decode cX21_init 4 = .ok (.aload_n 0, 1) := dk_42 (dk_at dksX21_init_0 4 rfl rfl)
theorem dX21_init_5 : decode cX21_init 5 = .ok (.iload_n 1, 1) := dk_27 (dk_at dksX21_init_0 5 rfl rfl)
theorem dX21_init_6 : decode cX21_init 6 = .ok (.putfield 7, 3) := dk_181 0 7 (dk_at dksX21_init_0 6 rfl rfl)
theorem dX21_init_9 : decode cX21_init 9 = .ok (.aload_n 0, 1) := dk_42 (dk_at dksX21_init_0 9 rfl rfl)
theorem dX21_init_10 : decode cX21_init 10 = .ok (.iload_n 2, 1) := dk_28 (dk_at dksX21_init_0 10 rfl rfl)
theorem dX21_init_11 : decode cX21_init 11 = .ok (.putfield 13, 3) := dk_181 0 13 (dk_at dksX21_init_0 11 rfl rfl)
theorem dX21_init_14 : decode cX21_init 14 = .ok (.aload_n 0, 1) := dk_42 (dk_at dksX21_init_0 14 rfl rfl)
theorem dX21_init_15 : decode cX21_init 15 = .ok (.iload_n 3, 1) := dk_29 (dk_at dksX21_init_0 15 rfl rfl)
theorem dX21_init_16 : decode cX21_init 16 = .ok (.putfield 16, 3) := dk_181 0 16 (dk_at dksX21_init_0 16 rfl rfl)
theorem dX21_init_19 : decode cX21_init 19 = .ok (.aload_n 0, 1) := dk_42 (dk_at dksX21_init_0 19 rfl rfl)
theorem dX21_init_20 : decode cX21_init 20 = .ok (.iload 4, 2) := dk_21 4 (dk_at dksX21_init_0 20 rfl rfl)
theorem dX21_init_22 : decode cX21_init 22 = .ok (.putfield 19, 3) := dk_181 0 19 (dk_at dksX21_init_1 0 rfl rfl)
theorem dX21_init_25 : decode cX21_init 25 = .ok (.return_, 1) := dk_177 (dk_at dksX21_init_1 3 rfl rfl)
theorem q147 : (Jvm.Cond.initialized "Keygrove$Message") ∈ lw_all := lw_g (lw_at lw_m1 71 rfl) rfl
theorem q737 : (Jvm.Cond.selects "Keygrove$Message" ({ cls := "java/lang/Object", name := "getClass", desc := "()Ljava/lang/Class;" } : Jvm.MethodName) ({ cls := "java/lang/Object", name := "getClass", desc := "()Ljava/lang/Class;" } : Jvm.MethodName)) ∈ lw_all := lw_g (lw_at lw_m3 181 rfl) rfl
theorem q1269 : (Jvm.Cond.selects "Keygrove$Message" ({ cls := "java/lang/Object", name := "hashCode", desc := "()I" } : Jvm.MethodName) ({ cls := "java/lang/Object", name := "hashCode", desc := "()I" } : Jvm.MethodName)) ∈ lw_all := lw_g (lw_at lw_m5 233 rfl) rfl
theorem q1370 : (Jvm.Cond.selects "Keygrove$Message" ({ cls := "java/lang/Object", name := "equals", desc := "(Ljava/lang/Object;)Z" } : Jvm.MethodName) ({ cls := "java/lang/Object", name := "equals", desc := "(Ljava/lang/Object;)Z" } : Jvm.MethodName)) ∈ lw_all := lw_g (lw_at lw_m6 94 rfl) rfl
theorem q2869 : (Jvm.Cond.instantiable "Keygrove$Message" (4 : Nat)) ∈ lw_all := lw_g (lw_at lw_m12 153 rfl) rfl
theorem q2871 : (Jvm.Cond.instanceMethod ({ cls := "Keygrove$Message", name := "<init>", desc := "(IIII)V" } : Jvm.MethodName)) ∈ lw_all := lw_g (lw_at lw_m12 155 rfl) rfl
theorem q2872 : (Jvm.Cond.code ({ cls := "Keygrove$Message", name := "<init>", desc := "(IIII)V" } : Jvm.MethodName) prog_5_method_1_code (5 : Nat) (Option.none : Option Jvm.ClassFile.FieldType)) ∈ lw_all := lw_g (lw_at lw_m12 156 rfl) rfl
theorem q2873 : (Jvm.Cond.methodLink "Keygrove$Message" (1 : Nat) ({ cls := "java/lang/Object", name := "<init>", desc := "()V" } : Jvm.MethodName)) ∈ lw_all := lw_g (lw_at lw_m12 157 rfl) rfl
theorem q2874 : (Jvm.Cond.fieldLink "Keygrove$Message" (7 : Nat) "Keygrove$Message" "epoch" "I") ∈ lw_all := lw_g (lw_at lw_m12 158 rfl) rfl
theorem q2876 : (Jvm.Cond.fieldLink "Keygrove$Message" (13 : Nat) "Keygrove$Message" "leaf" "I") ∈ lw_all := lw_g (lw_at lw_m12 160 rfl) rfl
theorem q2878 : (Jvm.Cond.fieldLink "Keygrove$Message" (16 : Nat) "Keygrove$Message" "place" "I") ∈ lw_all := lw_g (lw_at lw_m12 162 rfl) rfl
theorem q2880 : (Jvm.Cond.fieldLink "Keygrove$Message" (19 : Nat) "Keygrove$Message" "text" "I") ∈ lw_all := lw_g (lw_at lw_m12 164 rfl) rfl
theorem q2882 : (Jvm.Cond.laysFinal "Keygrove$Message" "Keygrove$Message" "epoch" "I") ∈ lw_all := lw_g (lw_at lw_m12 166 rfl) rfl
theorem q2883 : (Jvm.Cond.soleField "Keygrove$Message" "epoch") ∈ lw_all := lw_g (lw_at lw_m12 167 rfl) rfl
theorem q2884 : (Jvm.Cond.laysFinal "Keygrove$Message" "Keygrove$Message" "leaf" "I") ∈ lw_all := lw_g (lw_at lw_m12 168 rfl) rfl
theorem q2885 : (Jvm.Cond.soleField "Keygrove$Message" "leaf") ∈ lw_all := lw_g (lw_at lw_m12 169 rfl) rfl
theorem q2886 : (Jvm.Cond.laysFinal "Keygrove$Message" "Keygrove$Message" "place" "I") ∈ lw_all := lw_g (lw_at lw_m12 170 rfl) rfl
theorem q2887 : (Jvm.Cond.soleField "Keygrove$Message" "place") ∈ lw_all := lw_g (lw_at lw_m12 171 rfl) rfl
theorem q2888 : (Jvm.Cond.laysFinal "Keygrove$Message" "Keygrove$Message" "text" "I") ∈ lw_all := lw_g (lw_at lw_m12 172 rfl) rfl
theorem q2889 : (Jvm.Cond.soleField "Keygrove$Message" "text") ∈ lw_all := lw_g (lw_at lw_m12 173 rfl) rfl
theorem q2890 : (Jvm.Cond.superclass "Keygrove$Message" "java/lang/Object") ∈ lw_all := lw_g (lw_at lw_m12 174 rfl) rfl
theorem q3723 : (Jvm.Cond.castable "Keygrove$Message" "java/lang/Object") ∈ lw_tbl := lw_at lw_m16 47 rfl
theorem in_X21 : ∀ w ∈ wsX210, w ∈ lw_all := lw_in wsX210 [2882, 2884, 2886, 2888] (by decide +kernel) (by decide +kernel)
/-! KeygroveModel$Message -/
def RX22 : String := "KeygroveModel$Message"
def TX22 : u_T := fun k => match k with
  | 0 => ("KeygroveModel$Message", "epoch", "I", true)
  | 1 => ("KeygroveModel$Message", "leaf", "I", true)
  | 2 => ("KeygroveModel$Message", "place", "I", true)
  | 3 => ("KeygroveModel$Message", "key", "I", true)
  | _ => ("KeygroveModel$Message", "text", "I", true)
def tyX22 : Nat → FieldType := fun k => match k with
  | 0 => .int
  | 1 => .int
  | 2 => .int
  | 3 => .int
  | _ => .int
abbrev wsX220 : List Cond := u_ws RX22 TX22 5
theorem nmX22 : ∀ a, a < 5 → ∀ b, b < 5 → a ≠ b → (TX22 a).2.1 ≠ (TX22 b).2.1 := by decide +kernel
theorem tyX22_ok : ∀ k, k < 5 → parseFieldDescriptor (TX22 k).2.2.1 = some (tyX22 k) := by decide +kernel
abbrev cX22_init : ByteArray := prog_19_method_1_code
def yX22_init : MethodName := ⟨RX22, "<init>", "(IIIII)V"⟩
def dkwX22_init_1 : List UInt8 := [181, 0, 19, 42, 21, 5, 181, 0, 22, 177]
abbrev dktX22_init_1 : List UInt8 := dkwX22_init_1 ++ []
def dkwX22_init_0 : List UInt8 := [42, 183, 0, 1, 42, 27, 181, 0, 7, 42, 28, 181, 0, 13, 42, 29, 181, 0, 16, 42, 21, 4]
abbrev dktX22_init_0 : List UInt8 := dkwX22_init_0 ++ dktX22_init_1
theorem dksX22_init_0 : cX22_init.data.toList.drop 0 = dktX22_init_0 := by decide +kernel
theorem dksX22_init_1 : cX22_init.data.toList.drop 22 = dktX22_init_1 := dk_seg dksX22_init_0 22 rfl rfl
theorem dX22_init_0 : decode cX22_init 0 = .ok (.aload_n 0, 1) := dk_42 (dk_at dksX22_init_0 0 rfl rfl)
theorem dX22_init_1 : decode cX22_init 1 = .ok (.invokespecial 1, 3) := dk_183 0 1 (dk_at dksX22_init_0 1 rfl rfl)
theorem dX22_init_4 : decode cX22_init 4 = .ok (.aload_n 0, 1) := dk_42 (dk_at dksX22_init_0 4 rfl rfl)
theorem dX22_init_5 : decode cX22_init 5 = .ok (.iload_n 1, 1) := dk_27 (dk_at dksX22_init_0 5 rfl rfl)
theorem dX22_init_6 : decode cX22_init 6 = .ok (.putfield 7, 3) := dk_181 0 7 (dk_at dksX22_init_0 6 rfl rfl)
theorem dX22_init_9 : decode cX22_init 9 = .ok (.aload_n 0, 1) := dk_42 (dk_at dksX22_init_0 9 rfl rfl)
theorem dX22_init_10 : decode cX22_init 10 = .ok (.iload_n 2, 1) := dk_28 (dk_at dksX22_init_0 10 rfl rfl)
theorem dX22_init_11 : decode cX22_init 11 = .ok (.putfield 13, 3) := dk_181 0 13 (dk_at dksX22_init_0 11 rfl rfl)
theorem dX22_init_14 : decode cX22_init 14 = .ok (.aload_n 0, 1) := dk_42 (dk_at dksX22_init_0 14 rfl rfl)
theorem dX22_init_15 : decode cX22_init 15 = .ok (.iload_n 3, 1) := dk_29 (dk_at dksX22_init_0 15 rfl rfl)
theorem dX22_init_16 : decode cX22_init 16 = .ok (.putfield 16, 3) := dk_181 0 16 (dk_at dksX22_init_0 16 rfl rfl)
theorem dX22_init_19 : decode cX22_init 19 = .ok (.aload_n 0, 1) := dk_42 (dk_at dksX22_init_0 19 rfl rfl)
theorem dX22_init_20 : decode cX22_init 20 = .ok (.iload 4, 2) := dk_21 4 (dk_at dksX22_init_0 20 rfl rfl)
theorem dX22_init_22 : decode cX22_init 22 = .ok (.putfield 19, 3) := dk_181 0 19 (dk_at dksX22_init_1 0 rfl rfl)
theorem dX22_init_25 : decode cX22_init 25 = .ok (.aload_n 0, 1) := dk_42 (dk_at dksX22_init_1 3 rfl rfl)
theorem dX22_init_26 : decode cX22_init 26 = .ok (.iload 5, 2) := dk_21 5 (dk_at dksX22_init_1 4 rfl rfl)
theorem dX22_init_28 : decode cX22_init 28 = .ok (.putfield 22, 3) := dk_181 0 22 (dk_at dksX22_init_1 6 rfl rfl)
theorem dX22_init_31 : decode cX22_init 31 = .ok (.return_, 1) := dk_177 (dk_at dksX22_init_1 9 rfl rfl)
theorem q148 : (Jvm.Cond.initialized "KeygroveModel$Message") ∈ lw_all := lw_g (lw_at lw_m1 72 rfl) rfl
theorem q749 : (Jvm.Cond.selects "KeygroveModel$Message" ({ cls := "java/lang/Object", name := "getClass", desc := "()Ljava/lang/Class;" } : Jvm.MethodName) ({ cls := "java/lang/Object", name := "getClass", desc := "()Ljava/lang/Class;" } : Jvm.MethodName)) ∈ lw_all := lw_g (lw_at lw_m3 193 rfl) rfl
theorem q1281 : (Jvm.Cond.selects "KeygroveModel$Message" ({ cls := "java/lang/Object", name := "hashCode", desc := "()I" } : Jvm.MethodName) ({ cls := "java/lang/Object", name := "hashCode", desc := "()I" } : Jvm.MethodName)) ∈ lw_all := lw_g (lw_at lw_m6 5 rfl) rfl
theorem q1382 : (Jvm.Cond.selects "KeygroveModel$Message" ({ cls := "java/lang/Object", name := "equals", desc := "(Ljava/lang/Object;)Z" } : Jvm.MethodName) ({ cls := "java/lang/Object", name := "equals", desc := "(Ljava/lang/Object;)Z" } : Jvm.MethodName)) ∈ lw_all := lw_g (lw_at lw_m6 106 rfl) rfl
theorem q3563 : (Jvm.Cond.instantiable "KeygroveModel$Message" (5 : Nat)) ∈ lw_all := lw_g (lw_at lw_m15 127 rfl) rfl
theorem q3565 : (Jvm.Cond.instanceMethod ({ cls := "KeygroveModel$Message", name := "<init>", desc := "(IIIII)V" } : Jvm.MethodName)) ∈ lw_all := lw_g (lw_at lw_m15 129 rfl) rfl
theorem q3566 : (Jvm.Cond.code ({ cls := "KeygroveModel$Message", name := "<init>", desc := "(IIIII)V" } : Jvm.MethodName) prog_19_method_1_code (6 : Nat) (Option.none : Option Jvm.ClassFile.FieldType)) ∈ lw_all := lw_g (lw_at lw_m15 130 rfl) rfl
theorem q3567 : (Jvm.Cond.methodLink "KeygroveModel$Message" (1 : Nat) ({ cls := "java/lang/Object", name := "<init>", desc := "()V" } : Jvm.MethodName)) ∈ lw_all := lw_g (lw_at lw_m15 131 rfl) rfl
theorem q3568 : (Jvm.Cond.fieldLink "KeygroveModel$Message" (7 : Nat) "KeygroveModel$Message" "epoch" "I") ∈ lw_all := lw_g (lw_at lw_m15 132 rfl) rfl
theorem q3570 : (Jvm.Cond.fieldLink "KeygroveModel$Message" (13 : Nat) "KeygroveModel$Message" "leaf" "I") ∈ lw_all := lw_g (lw_at lw_m15 134 rfl) rfl
theorem q3572 : (Jvm.Cond.fieldLink "KeygroveModel$Message" (16 : Nat) "KeygroveModel$Message" "place" "I") ∈ lw_all := lw_g (lw_at lw_m15 136 rfl) rfl
theorem q3574 : (Jvm.Cond.fieldLink "KeygroveModel$Message" (19 : Nat) "KeygroveModel$Message" "key" "I") ∈ lw_all := lw_g (lw_at lw_m15 138 rfl) rfl
theorem q3575 : (Jvm.Cond.fieldLink "KeygroveModel$Message" (22 : Nat) "KeygroveModel$Message" "text" "I") ∈ lw_all := lw_g (lw_at lw_m15 139 rfl) rfl
theorem q3577 : (Jvm.Cond.laysFinal "KeygroveModel$Message" "KeygroveModel$Message" "epoch" "I") ∈ lw_all := lw_g (lw_at lw_m15 141 rfl) rfl
theorem q3578 : (Jvm.Cond.soleField "KeygroveModel$Message" "epoch") ∈ lw_all := lw_g (lw_at lw_m15 142 rfl) rfl
theorem q3579 : (Jvm.Cond.laysFinal "KeygroveModel$Message" "KeygroveModel$Message" "leaf" "I") ∈ lw_all := lw_g (lw_at lw_m15 143 rfl) rfl
theorem q3580 : (Jvm.Cond.soleField "KeygroveModel$Message" "leaf") ∈ lw_all := lw_g (lw_at lw_m15 144 rfl) rfl
theorem q3581 : (Jvm.Cond.laysFinal "KeygroveModel$Message" "KeygroveModel$Message" "place" "I") ∈ lw_all := lw_g (lw_at lw_m15 145 rfl) rfl
theorem q3582 : (Jvm.Cond.soleField "KeygroveModel$Message" "place") ∈ lw_all := lw_g (lw_at lw_m15 146 rfl) rfl
theorem q3583 : (Jvm.Cond.laysFinal "KeygroveModel$Message" "KeygroveModel$Message" "key" "I") ∈ lw_all := lw_g (lw_at lw_m15 147 rfl) rfl
theorem q3584 : (Jvm.Cond.soleField "KeygroveModel$Message" "key") ∈ lw_all := lw_g (lw_at lw_m15 148 rfl) rfl
theorem q3585 : (Jvm.Cond.laysFinal "KeygroveModel$Message" "KeygroveModel$Message" "text" "I") ∈ lw_all := lw_g (lw_at lw_m15 149 rfl) rfl
theorem q3586 : (Jvm.Cond.soleField "KeygroveModel$Message" "text") ∈ lw_all := lw_g (lw_at lw_m15 150 rfl) rfl
theorem q3587 : (Jvm.Cond.superclass "KeygroveModel$Message" "java/lang/Object") ∈ lw_all := lw_g (lw_at lw_m15 151 rfl) rfl
theorem q3724 : (Jvm.Cond.castable "KeygroveModel$Message" "java/lang/Object") ∈ lw_tbl := lw_at lw_m16 48 rfl
theorem in_X22 : ∀ w ∈ wsX220, w ∈ lw_all := lw_in wsX220 [3577, 3579, 3581, 3583, 3585] (by decide +kernel) (by decide +kernel)
/-! the law's own entry -/
abbrev cL_law : ByteArray := code
def dkwL_law_93 : List UInt8 := [3, 172, 132, 5, 4, 167, 247, 4, 4, 172]
abbrev dktL_law_93 : List UInt8 := dkwL_law_93 ++ []
def dkwL_law_92 : List UInt8 := [182, 1, 4, 44, 182, 1, 8, 148, 153, 0, 18, 3, 172, 43, 182, 1, 9, 44, 182, 1, 13, 159, 0, 5]
abbrev dktL_law_92 : List UInt8 := dkwL_law_92 ++ dktL_law_93
def dkwL_law_91 : List UInt8 := [25, 4, 3, 49, 151, 153, 0, 11, 24, 7, 24, 7, 151, 154, 0, 5, 3, 172, 167, 0, 30, 43]
abbrev dktL_law_91 : List UInt8 := dkwL_law_91 ++ dktL_law_92
def dkwL_law_90 : List UInt8 := [159, 0, 5, 3, 172, 21, 6, 154, 0, 35, 25, 4, 3, 49, 24, 7, 151, 153, 0, 25, 25, 4, 3, 49]
abbrev dktL_law_90 : List UInt8 := dkwL_law_90 ++ dktL_law_91
def dkwL_law_89 : List UInt8 := [172, 167, 0, 95, 43, 25, 4, 184, 1, 1, 54, 6, 44, 182, 1, 3, 57, 7, 44, 182, 0, 140, 21, 6]
abbrev dktL_law_89 : List UInt8 := dkwL_law_89 ++ dktL_law_90
def dkwL_law_88 : List UInt8 := [153, 0, 25, 25, 4, 3, 49, 25, 4, 3, 49, 151, 153, 0, 11, 23, 7, 23, 7, 149, 154, 0, 5, 3]
abbrev dktL_law_88 : List UInt8 := dkwL_law_88 ++ dktL_law_89
def dkwL_law_87 : List UInt8 := [182, 0, 140, 21, 6, 159, 0, 5, 3, 172, 21, 6, 154, 0, 36, 25, 4, 3, 49, 23, 7, 141, 151]
abbrev dktL_law_87 : List UInt8 := dkwL_law_87 ++ dktL_law_88
def dkwL_law_86 : List UInt8 := [153, 0, 5, 3, 172, 167, 0, 161, 43, 25, 4, 184, 0, 253, 54, 6, 44, 182, 1, 0, 56, 7, 44]
abbrev dktL_law_86 : List UInt8 := dkwL_law_86 ++ dktL_law_87
def dkwL_law_85 : List UInt8 := [159, 0, 5, 3, 172, 21, 6, 154, 0, 22, 45, 3, 47, 21, 7, 153, 0, 7, 10, 167, 0, 4, 9, 148]
abbrev dktL_law_85 : List UInt8 := dkwL_law_85 ++ dktL_law_86
def dkwL_law_84 : List UInt8 := [21, 5, 4, 96, 46, 42, 21, 5, 5, 96, 46, 182, 0, 252, 54, 7, 44, 182, 0, 140, 21, 6]
abbrev dktL_law_84 : List UInt8 := dkwL_law_84 ++ dktL_law_85
def dkwL_law_83 : List UInt8 := [167, 0, 236, 43, 42, 21, 5, 4, 96, 46, 42, 21, 5, 5, 96, 46, 45, 184, 0, 250, 54, 6, 44, 42]
abbrev dktL_law_83 : List UInt8 := dkwL_law_83 ++ dktL_law_84
def dkwL_law_82 : List UInt8 := [154, 0, 22, 45, 3, 47, 21, 7, 153, 0, 7, 10, 167, 0, 4, 9, 148, 153, 0, 5, 3, 172]
abbrev dktL_law_82 : List UInt8 := dkwL_law_82 ++ dktL_law_83
def dkwL_law_81 : List UInt8 := [4, 167, 0, 4, 3, 182, 0, 249, 54, 7, 44, 182, 0, 140, 21, 6, 159, 0, 5, 3, 172, 21, 6]
abbrev dktL_law_81 : List UInt8 := dkwL_law_81 ++ dktL_law_82
def dkwL_law_80 : List UInt8 := [54, 6, 44, 42, 21, 5, 4, 96, 46, 42, 21, 5, 5, 96, 46, 42, 21, 5, 6, 96, 46, 153, 0, 7]
abbrev dktL_law_80 : List UInt8 := dkwL_law_80 ++ dktL_law_81
def dkwL_law_79 : List UInt8 := [21, 5, 5, 96, 46, 42, 21, 5, 6, 96, 46, 153, 0, 7, 4, 167, 0, 4, 3, 45, 184, 0, 246]
abbrev dktL_law_79 : List UInt8 := dkwL_law_79 ++ dktL_law_80
def dkwL_law_78 : List UInt8 := [167, 1, 96, 43, 182, 0, 242, 44, 182, 0, 245, 159, 1, 85, 3, 172, 43, 42, 21, 5, 4, 96, 46, 42]
abbrev dktL_law_78 : List UInt8 := dkwL_law_78 ++ dktL_law_79
def dkwL_law_77 : List UInt8 := [154, 0, 22, 45, 3, 47, 21, 7, 153, 0, 7, 10, 167, 0, 4, 9, 148, 153, 0, 5, 3, 172]
abbrev dktL_law_77 : List UInt8 := dkwL_law_77 ++ dktL_law_78
def dkwL_law_76 : List UInt8 := [42, 21, 5, 4, 96, 46, 182, 0, 241, 54, 7, 44, 182, 0, 140, 21, 6, 159, 0, 5, 3, 172, 21, 6]
abbrev dktL_law_76 : List UInt8 := dkwL_law_76 ++ dktL_law_77
def dkwL_law_75 : List UInt8 := [9, 148, 153, 0, 5, 3, 172, 167, 1, 159, 43, 42, 21, 5, 4, 96, 46, 45, 184, 0, 239, 54, 6, 44]
abbrev dktL_law_75 : List UInt8 := dkwL_law_75 ++ dktL_law_76
def dkwL_law_74 : List UInt8 := [21, 6, 159, 0, 5, 3, 172, 21, 6, 154, 0, 22, 45, 3, 47, 21, 7, 153, 0, 7, 10, 167, 0, 4]
abbrev dktL_law_74 : List UInt8 := dkwL_law_74 ++ dktL_law_75
def dkwL_law_73 : List UInt8 := [46, 45, 184, 0, 236, 54, 6, 44, 42, 21, 5, 4, 96, 46, 182, 0, 238, 54, 7, 44, 182, 0, 140]
abbrev dktL_law_73 : List UInt8 := dkwL_law_73 ++ dktL_law_74
def dkwL_law_72 : List UInt8 := [154, 0, 15, 45, 3, 47, 21, 7, 133, 148, 153, 0, 5, 3, 172, 167, 1, 222, 43, 42, 21, 5, 4, 96]
abbrev dktL_law_72 : List UInt8 := dkwL_law_72 ++ dktL_law_73
def dkwL_law_71 : List UInt8 := [21, 5, 4, 96, 46, 182, 0, 235, 54, 7, 44, 182, 0, 140, 21, 6, 159, 0, 5, 3, 172, 21, 6]
abbrev dktL_law_71 : List UInt8 := dkwL_law_71 ++ dktL_law_72
def dkwL_law_70 : List UInt8 := [153, 0, 5, 3, 172, 167, 2, 22, 43, 42, 21, 5, 4, 96, 46, 45, 184, 0, 233, 54, 6, 44, 42]
abbrev dktL_law_70 : List UInt8 := dkwL_law_70 ++ dktL_law_71
def dkwL_law_69 : List UInt8 := [44, 182, 0, 140, 21, 6, 159, 0, 5, 3, 172, 21, 6, 154, 0, 15, 45, 3, 47, 21, 7, 133, 148]
abbrev dktL_law_69 : List UInt8 := dkwL_law_69 ++ dktL_law_70
def dkwL_law_68 : List UInt8 := [184, 0, 229, 54, 6, 44, 42, 21, 5, 4, 96, 46, 42, 21, 5, 5, 96, 46, 146, 182, 0, 232, 54, 7]
abbrev dktL_law_68 : List UInt8 := dkwL_law_68 ++ dktL_law_69
def dkwL_law_67 : List UInt8 := [148, 153, 0, 5, 3, 172, 167, 2, 92, 43, 42, 21, 5, 4, 96, 46, 42, 21, 5, 5, 96, 46, 146, 45]
abbrev dktL_law_67 : List UInt8 := dkwL_law_67 ++ dktL_law_68
def dkwL_law_66 : List UInt8 := [54, 7, 44, 182, 0, 140, 21, 6, 159, 0, 5, 3, 172, 21, 6, 154, 0, 15, 45, 3, 47, 21, 7, 133]
abbrev dktL_law_66 : List UInt8 := dkwL_law_66 ++ dktL_law_67
def dkwL_law_65 : List UInt8 := [46, 45, 184, 0, 226, 54, 6, 44, 42, 21, 5, 4, 96, 46, 42, 21, 5, 5, 96, 46, 182, 0, 228]
abbrev dktL_law_65 : List UInt8 := dkwL_law_65 ++ dktL_law_66
def dkwL_law_64 : List UInt8 := [21, 7, 133, 148, 153, 0, 5, 3, 172, 167, 2, 160, 43, 42, 21, 5, 4, 96, 46, 42, 21, 5, 5, 96]
abbrev dktL_law_64 : List UInt8 := dkwL_law_64 ++ dktL_law_65
def dkwL_law_63 : List UInt8 := [182, 0, 225, 54, 7, 44, 182, 0, 140, 21, 6, 159, 0, 5, 3, 172, 21, 6, 154, 0, 15, 45, 3, 47]
abbrev dktL_law_63 : List UInt8 := dkwL_law_63 ++ dktL_law_64
def dkwL_law_62 : List UInt8 := [167, 2, 216, 43, 42, 21, 5, 4, 96, 46, 45, 184, 0, 223, 54, 6, 44, 42, 21, 5, 4, 96, 46]
abbrev dktL_law_62 : List UInt8 := dkwL_law_62 ++ dktL_law_63
def dkwL_law_61 : List UInt8 := [159, 0, 5, 3, 172, 21, 6, 154, 0, 15, 45, 3, 47, 21, 7, 133, 148, 153, 0, 5, 3, 172]
abbrev dktL_law_61 : List UInt8 := dkwL_law_61 ++ dktL_law_62
def dkwL_law_60 : List UInt8 := [184, 0, 220, 54, 6, 44, 42, 21, 5, 4, 96, 46, 182, 0, 222, 54, 7, 44, 182, 0, 140, 21, 6]
abbrev dktL_law_60 : List UInt8 := dkwL_law_60 ++ dktL_law_61
def dkwL_law_59 : List UInt8 := [167, 3, 29, 43, 182, 0, 216, 44, 182, 0, 219, 159, 3, 18, 3, 172, 43, 42, 21, 5, 4, 96, 46, 45]
abbrev dktL_law_59 : List UInt8 := dkwL_law_59 ++ dktL_law_60
def dkwL_law_58 : List UInt8 := [159, 0, 5, 3, 172, 21, 6, 154, 0, 15, 45, 3, 47, 21, 7, 133, 148, 153, 0, 5, 3, 172]
abbrev dktL_law_58 : List UInt8 := dkwL_law_58 ++ dktL_law_59
def dkwL_law_57 : List UInt8 := [45, 184, 0, 213, 54, 6, 44, 42, 21, 5, 4, 96, 46, 182, 0, 215, 54, 7, 44, 182, 0, 140, 21, 6]
abbrev dktL_law_57 : List UInt8 := dkwL_law_57 ++ dktL_law_58
def dkwL_law_56 : List UInt8 := [153, 0, 7, 10, 167, 0, 4, 9, 148, 153, 0, 5, 3, 172, 167, 3, 85, 43, 42, 21, 5, 4, 96, 46]
abbrev dktL_law_56 : List UInt8 := dkwL_law_56 ++ dktL_law_57
def dkwL_law_55 : List UInt8 := [54, 7, 44, 182, 0, 140, 21, 6, 159, 0, 5, 3, 172, 21, 6, 154, 0, 22, 45, 3, 47, 21, 7]
abbrev dktL_law_55 : List UInt8 := dkwL_law_55 ++ dktL_law_56
def dkwL_law_54 : List UInt8 := [46, 45, 184, 0, 210, 54, 6, 44, 42, 21, 5, 4, 96, 46, 42, 21, 5, 5, 96, 46, 182, 0, 212]
abbrev dktL_law_54 : List UInt8 := dkwL_law_54 ++ dktL_law_55
def dkwL_law_53 : List UInt8 := [21, 7, 133, 148, 153, 0, 5, 3, 172, 167, 3, 160, 43, 42, 21, 5, 4, 96, 46, 42, 21, 5, 5, 96]
abbrev dktL_law_53 : List UInt8 := dkwL_law_53 ++ dktL_law_54
def dkwL_law_52 : List UInt8 := [182, 0, 209, 54, 7, 44, 182, 0, 140, 21, 6, 159, 0, 5, 3, 172, 21, 6, 154, 0, 15, 45, 3, 47]
abbrev dktL_law_52 : List UInt8 := dkwL_law_52 ++ dktL_law_53
def dkwL_law_51 : List UInt8 := [167, 3, 216, 43, 42, 21, 5, 4, 96, 46, 45, 184, 0, 207, 54, 6, 44, 42, 21, 5, 4, 96, 46]
abbrev dktL_law_51 : List UInt8 := dkwL_law_51 ++ dktL_law_52
def dkwL_law_50 : List UInt8 := [159, 0, 5, 3, 172, 21, 6, 154, 0, 15, 45, 3, 47, 21, 7, 133, 148, 153, 0, 5, 3, 172]
abbrev dktL_law_50 : List UInt8 := dkwL_law_50 ++ dktL_law_51
def dkwL_law_49 : List UInt8 := [21, 5, 4, 96, 46, 42, 21, 5, 5, 96, 46, 182, 0, 206, 54, 7, 44, 182, 0, 140, 21, 6]
abbrev dktL_law_49 : List UInt8 := dkwL_law_49 ++ dktL_law_50
def dkwL_law_48 : List UInt8 := [167, 4, 28, 43, 42, 21, 5, 4, 96, 46, 42, 21, 5, 5, 96, 46, 45, 184, 0, 204, 54, 6, 44, 42]
abbrev dktL_law_48 : List UInt8 := dkwL_law_48 ++ dktL_law_49
def dkwL_law_47 : List UInt8 := [21, 6, 159, 0, 5, 3, 172, 21, 6, 154, 0, 15, 45, 3, 47, 21, 7, 133, 148, 153, 0, 5, 3, 172]
abbrev dktL_law_47 : List UInt8 := dkwL_law_47 ++ dktL_law_48
def dkwL_law_46 : List UInt8 := [46, 45, 184, 0, 201, 54, 6, 44, 42, 21, 5, 4, 96, 46, 182, 0, 203, 54, 7, 44, 182, 0, 140]
abbrev dktL_law_46 : List UInt8 := dkwL_law_46 ++ dktL_law_47
def dkwL_law_45 : List UInt8 := [154, 0, 15, 45, 3, 47, 21, 7, 133, 148, 153, 0, 5, 3, 172, 167, 4, 84, 43, 42, 21, 5, 4, 96]
abbrev dktL_law_45 : List UInt8 := dkwL_law_45 ++ dktL_law_46
def dkwL_law_44 : List UInt8 := [42, 21, 5, 4, 96, 46, 182, 0, 200, 54, 7, 44, 182, 0, 140, 21, 6, 159, 0, 5, 3, 172, 21, 6]
abbrev dktL_law_44 : List UInt8 := dkwL_law_44 ++ dktL_law_45
def dkwL_law_43 : List UInt8 := [9, 148, 153, 0, 5, 3, 172, 167, 4, 140, 43, 42, 21, 5, 4, 96, 46, 45, 184, 0, 198, 54, 6, 44]
abbrev dktL_law_43 : List UInt8 := dkwL_law_43 ++ dktL_law_44
def dkwL_law_42 : List UInt8 := [21, 6, 159, 0, 5, 3, 172, 21, 6, 154, 0, 22, 45, 3, 47, 21, 7, 153, 0, 7, 10, 167, 0, 4]
abbrev dktL_law_42 : List UInt8 := dkwL_law_42 ++ dktL_law_43
def dkwL_law_41 : List UInt8 := [46, 45, 184, 0, 195, 54, 6, 44, 42, 21, 5, 4, 96, 46, 182, 0, 197, 54, 7, 44, 182, 0, 140]
abbrev dktL_law_41 : List UInt8 := dkwL_law_41 ++ dktL_law_42
def dkwL_law_40 : List UInt8 := [154, 0, 15, 45, 3, 47, 21, 7, 133, 148, 153, 0, 5, 3, 172, 167, 4, 203, 43, 42, 21, 5, 4, 96]
abbrev dktL_law_40 : List UInt8 := dkwL_law_40 ++ dktL_law_41
def dkwL_law_39 : List UInt8 := [184, 0, 192, 54, 6, 44, 182, 0, 194, 54, 7, 44, 182, 0, 140, 21, 6, 159, 0, 5, 3, 172, 21, 6]
abbrev dktL_law_39 : List UInt8 := dkwL_law_39 ++ dktL_law_40
def dkwL_law_38 : List UInt8 := [172, 21, 6, 154, 0, 15, 45, 3, 47, 21, 7, 133, 148, 153, 0, 5, 3, 172, 167, 4, 247, 43, 45]
abbrev dktL_law_38 : List UInt8 := dkwL_law_38 ++ dktL_law_39
def dkwL_law_37 : List UInt8 := [54, 6, 44, 42, 21, 5, 4, 96, 46, 182, 0, 191, 54, 7, 44, 182, 0, 140, 21, 6, 159, 0, 5, 3]
abbrev dktL_law_37 : List UInt8 := dkwL_law_37 ++ dktL_law_38
def dkwL_law_36 : List UInt8 := [21, 7, 133, 148, 153, 0, 5, 3, 172, 167, 5, 47, 43, 42, 21, 5, 4, 96, 46, 45, 184, 0, 189]
abbrev dktL_law_36 : List UInt8 := dkwL_law_36 ++ dktL_law_37
def dkwL_law_35 : List UInt8 := [182, 0, 188, 54, 7, 44, 182, 0, 140, 21, 6, 159, 0, 5, 3, 172, 21, 6, 154, 0, 15, 45, 3, 47]
abbrev dktL_law_35 : List UInt8 := dkwL_law_35 ++ dktL_law_36
def dkwL_law_34 : List UInt8 := [167, 5, 103, 43, 42, 21, 5, 4, 96, 46, 45, 184, 0, 186, 54, 6, 44, 42, 21, 5, 4, 96, 46]
abbrev dktL_law_34 : List UInt8 := dkwL_law_34 ++ dktL_law_35
def dkwL_law_33 : List UInt8 := [21, 6, 159, 0, 5, 3, 172, 21, 6, 154, 0, 15, 45, 3, 47, 21, 7, 133, 148, 153, 0, 5, 3, 172]
abbrev dktL_law_33 : List UInt8 := dkwL_law_33 ++ dktL_law_34
def dkwL_law_32 : List UInt8 := [46, 45, 184, 0, 183, 54, 6, 44, 42, 21, 5, 4, 96, 46, 182, 0, 185, 54, 7, 44, 182, 0, 140]
abbrev dktL_law_32 : List UInt8 := dkwL_law_32 ++ dktL_law_33
def dkwL_law_31 : List UInt8 := [154, 0, 15, 45, 3, 47, 21, 7, 133, 148, 153, 0, 5, 3, 172, 167, 5, 159, 43, 42, 21, 5, 4, 96]
abbrev dktL_law_31 : List UInt8 := dkwL_law_31 ++ dktL_law_32
def dkwL_law_30 : List UInt8 := [21, 5, 4, 96, 46, 182, 0, 182, 54, 7, 44, 182, 0, 140, 21, 6, 159, 0, 5, 3, 172, 21, 6]
abbrev dktL_law_30 : List UInt8 := dkwL_law_30 ++ dktL_law_31
def dkwL_law_29 : List UInt8 := [182, 0, 179, 159, 5, 217, 3, 172, 43, 42, 21, 5, 4, 96, 46, 45, 184, 0, 180, 54, 6, 44, 42]
abbrev dktL_law_29 : List UInt8 := dkwL_law_29 ++ dktL_law_30
def dkwL_law_28 : List UInt8 := [154, 0, 15, 45, 3, 47, 21, 7, 133, 148, 153, 0, 5, 3, 172, 167, 5, 228, 43, 182, 0, 176, 44]
abbrev dktL_law_28 : List UInt8 := dkwL_law_28 ++ dktL_law_29
def dkwL_law_27 : List UInt8 := [21, 5, 4, 96, 46, 182, 0, 175, 54, 7, 44, 182, 0, 140, 21, 6, 159, 0, 5, 3, 172, 21, 6]
abbrev dktL_law_27 : List UInt8 := dkwL_law_27 ++ dktL_law_28
def dkwL_law_26 : List UInt8 := [148, 153, 0, 5, 3, 172, 167, 6, 28, 43, 42, 21, 5, 4, 96, 46, 45, 184, 0, 173, 54, 6, 44, 42]
abbrev dktL_law_26 : List UInt8 := dkwL_law_26 ++ dktL_law_27
def dkwL_law_25 : List UInt8 := [54, 7, 44, 182, 0, 140, 21, 6, 159, 0, 5, 3, 172, 21, 6, 154, 0, 15, 45, 3, 47, 21, 7, 133]
abbrev dktL_law_25 : List UInt8 := dkwL_law_25 ++ dktL_law_26
def dkwL_law_24 : List UInt8 := [96, 46, 45, 184, 0, 170, 54, 6, 44, 42, 21, 5, 4, 96, 46, 42, 21, 5, 5, 96, 46, 182, 0, 172]
abbrev dktL_law_24 : List UInt8 := dkwL_law_24 ++ dktL_law_25
def dkwL_law_23 : List UInt8 := [47, 21, 7, 133, 148, 153, 0, 5, 3, 172, 167, 6, 96, 43, 42, 21, 5, 4, 96, 46, 42, 21, 5, 5]
abbrev dktL_law_23 : List UInt8 := dkwL_law_23 ++ dktL_law_24
def dkwL_law_22 : List UInt8 := [46, 182, 0, 169, 54, 7, 44, 182, 0, 140, 21, 6, 159, 0, 5, 3, 172, 21, 6, 154, 0, 15, 45, 3]
abbrev dktL_law_22 : List UInt8 := dkwL_law_22 ++ dktL_law_23
def dkwL_law_21 : List UInt8 := [42, 21, 5, 5, 96, 46, 45, 184, 0, 167, 54, 6, 44, 42, 21, 5, 4, 96, 46, 42, 21, 5, 5, 96]
abbrev dktL_law_21 : List UInt8 := dkwL_law_21 ++ dktL_law_22
def dkwL_law_20 : List UInt8 := [153, 0, 7, 10, 167, 0, 4, 9, 148, 153, 0, 5, 3, 172, 167, 6, 164, 43, 42, 21, 5, 4, 96, 46]
abbrev dktL_law_20 : List UInt8 := dkwL_law_20 ++ dktL_law_21
def dkwL_law_19 : List UInt8 := [54, 7, 44, 182, 0, 140, 21, 6, 159, 0, 5, 3, 172, 21, 6, 154, 0, 22, 45, 3, 47, 21, 7]
abbrev dktL_law_19 : List UInt8 := dkwL_law_19 ++ dktL_law_20
def dkwL_law_18 : List UInt8 := [46, 45, 184, 0, 163, 54, 6, 44, 42, 21, 5, 4, 96, 46, 42, 21, 5, 5, 96, 46, 182, 0, 166]
abbrev dktL_law_18 : List UInt8 := dkwL_law_18 ++ dktL_law_19
def dkwL_law_17 : List UInt8 := [21, 7, 133, 148, 153, 0, 5, 3, 172, 167, 6, 239, 43, 42, 21, 5, 4, 96, 46, 42, 21, 5, 5, 96]
abbrev dktL_law_17 : List UInt8 := dkwL_law_17 ++ dktL_law_18
def dkwL_law_16 : List UInt8 := [182, 0, 162, 54, 7, 44, 182, 0, 140, 21, 6, 159, 0, 5, 3, 172, 21, 6, 154, 0, 15, 45, 3, 47]
abbrev dktL_law_16 : List UInt8 := dkwL_law_16 ++ dktL_law_17
def dkwL_law_15 : List UInt8 := [167, 7, 39, 43, 42, 21, 5, 4, 96, 46, 45, 184, 0, 160, 54, 6, 44, 42, 21, 5, 4, 96, 46]
abbrev dktL_law_15 : List UInt8 := dkwL_law_15 ++ dktL_law_16
def dkwL_law_14 : List UInt8 := [159, 0, 5, 3, 172, 21, 6, 154, 0, 15, 45, 3, 47, 21, 7, 133, 148, 153, 0, 5, 3, 172]
abbrev dktL_law_14 : List UInt8 := dkwL_law_14 ++ dktL_law_15
def dkwL_law_13 : List UInt8 := [184, 0, 157, 54, 6, 44, 42, 21, 5, 4, 96, 46, 182, 0, 159, 54, 7, 44, 182, 0, 140, 21, 6]
abbrev dktL_law_13 : List UInt8 := dkwL_law_13 ++ dktL_law_14
def dkwL_law_12 : List UInt8 := [45, 3, 47, 21, 7, 133, 148, 153, 0, 5, 3, 172, 167, 7, 95, 43, 42, 21, 5, 4, 96, 46, 45]
abbrev dktL_law_12 : List UInt8 := dkwL_law_12 ++ dktL_law_13
def dkwL_law_11 : List UInt8 := [54, 6, 44, 182, 0, 156, 54, 7, 44, 182, 0, 140, 21, 6, 159, 0, 5, 3, 172, 21, 6, 154, 0, 15]
abbrev dktL_law_11 : List UInt8 := dkwL_law_11 ++ dktL_law_12
def dkwL_law_10 : List UInt8 := [46, 182, 0, 150, 44, 42, 21, 5, 4, 96, 46, 182, 0, 153, 159, 7, 141, 3, 172, 43, 45, 184, 0, 154]
abbrev dktL_law_10 : List UInt8 := dkwL_law_10 ++ dktL_law_11
def dkwL_law_9 : List UInt8 := [154, 0, 15, 45, 3, 47, 21, 7, 133, 148, 153, 0, 5, 3, 172, 167, 7, 164, 43, 42, 21, 5, 4, 96]
abbrev dktL_law_9 : List UInt8 := dkwL_law_9 ++ dktL_law_10
def dkwL_law_8 : List UInt8 := [21, 5, 4, 96, 46, 182, 0, 149, 54, 7, 44, 182, 0, 140, 21, 6, 159, 0, 5, 3, 172, 21, 6]
abbrev dktL_law_8 : List UInt8 := dkwL_law_8 ++ dktL_law_9
def dkwL_law_7 : List UInt8 := [153, 0, 5, 3, 172, 167, 7, 220, 43, 42, 21, 5, 4, 96, 46, 45, 184, 0, 147, 54, 6, 44, 42]
abbrev dktL_law_7 : List UInt8 := dkwL_law_7 ++ dktL_law_8
def dkwL_law_6 : List UInt8 := [182, 0, 140, 21, 6, 159, 0, 5, 3, 172, 21, 6, 154, 0, 15, 45, 3, 47, 21, 7, 133, 148]
abbrev dktL_law_6 : List UInt8 := dkwL_law_6 ++ dktL_law_7
def dkwL_law_5 : List UInt8 := [4, 96, 46, 45, 184, 0, 143, 54, 6, 44, 42, 21, 5, 4, 96, 46, 182, 0, 146, 54, 7, 44]
abbrev dktL_law_5 : List UInt8 := dkwL_law_5 ++ dktL_law_6
def dkwL_law_4 : List UInt8 := [21, 6, 154, 0, 15, 45, 3, 47, 21, 7, 133, 148, 153, 0, 5, 3, 172, 167, 8, 20, 43, 42, 21, 5]
abbrev dktL_law_4 : List UInt8 := dkwL_law_4 ++ dktL_law_5
def dkwL_law_3 : List UInt8 := [43, 45, 184, 0, 134, 54, 6, 44, 182, 0, 139, 54, 7, 44, 182, 0, 140, 21, 6, 159, 0, 5, 3, 172]
abbrev dktL_law_3 : List UInt8 := dkwL_law_3 ++ dktL_law_4
def dkwL_law_2 : List UInt8 := [170, 0, 0, 0, 0, 0, 8, 233, 0, 0, 0, 0, 0, 0, 0, 38, 0, 0, 0, 172, 0, 0, 0, 216, 0, 0, 1, 16, 0, 0, 1, 72, 0, 0, 1, 97, 0, 0, 1, 141, 0, 0, 1, 197, 0, 0, 1, 253, 0, 0, 2, 72, 0, 0, 2, 140, 0, 0, 2, 208, 0, 0, 3, 8, 0, 0, 3, 21, 0, 0, 3, 77, 0, 0, 3, 133, 0, 0, 3, 189, 0, 0, 3, 245, 0, 0, 4, 33, 0, 0, 4, 96, 0, 0, 4, 152, 0, 0, 4, 208, 0, 0, 5, 20, 0, 0, 5, 76, 0, 0, 5, 151, 0, 0, 5, 207, 0, 0, 5, 220, 0, 0, 6, 20, 0, 0, 6, 76, 0, 0, 6, 144, 0, 0, 6, 214, 0, 0, 7, 14, 0, 0, 7, 77, 0, 0, 7, 140, 0, 0, 7, 153, 0, 0, 8, 0, 0, 0, 8, 75, 0, 0, 8, 141, 0, 0, 8, 206, 0, 0, 8, 220]
abbrev dktL_law_2 : List UInt8 := dkwL_law_2 ++ dktL_law_3
def dkwL_law_1 : List UInt8 := [58, 4, 3, 54, 5, 21, 5, 42, 190, 7, 100, 163, 8, 249, 42, 21, 5, 46, 16, 63, 126]
abbrev dktL_law_1 : List UInt8 := dkwL_law_1 ++ dktL_law_2
def dkwL_law_0 : List UInt8 := [187, 0, 8, 89, 183, 0, 130, 76, 187, 0, 131, 89, 183, 0, 133, 77, 4, 188, 11, 78, 4, 188, 7]
abbrev dktL_law_0 : List UInt8 := dkwL_law_0 ++ dktL_law_1
theorem dksL_law_0 : cL_law.data.toList.drop 0 = dktL_law_0 := by decide +kernel
theorem dksL_law_1 : cL_law.data.toList.drop 23 = dktL_law_1 := dk_seg dksL_law_0 23 rfl rfl
theorem dksL_law_2 : cL_law.data.toList.drop 44 = dktL_law_2 := dk_seg dksL_law_1 21 rfl rfl
theorem dksL_law_3 : cL_law.data.toList.drop 216 = dktL_law_3 := dk_seg dksL_law_2 172 rfl rfl
theorem dksL_law_4 : cL_law.data.toList.drop 240 = dktL_law_4 := dk_seg dksL_law_3 24 rfl rfl
theorem dksL_law_5 : cL_law.data.toList.drop 264 = dktL_law_5 := dk_seg dksL_law_4 24 rfl rfl
theorem dksL_law_6 : cL_law.data.toList.drop 286 = dktL_law_6 := dk_seg dksL_law_5 22 rfl rfl
theorem dksL_law_7 : cL_law.data.toList.drop 308 = dktL_law_7 := dk_seg dksL_law_6 22 rfl rfl
theorem dksL_law_8 : cL_law.data.toList.drop 331 = dktL_law_8 := dk_seg dksL_law_7 23 rfl rfl
theorem dksL_law_9 : cL_law.data.toList.drop 354 = dktL_law_9 := dk_seg dksL_law_8 23 rfl rfl
theorem dksL_law_10 : cL_law.data.toList.drop 378 = dktL_law_10 := dk_seg dksL_law_9 24 rfl rfl
theorem dksL_law_11 : cL_law.data.toList.drop 402 = dktL_law_11 := dk_seg dksL_law_10 24 rfl rfl
theorem dksL_law_12 : cL_law.data.toList.drop 426 = dktL_law_12 := dk_seg dksL_law_11 24 rfl rfl
theorem dksL_law_13 : cL_law.data.toList.drop 449 = dktL_law_13 := dk_seg dksL_law_12 23 rfl rfl
theorem dksL_law_14 : cL_law.data.toList.drop 472 = dktL_law_14 := dk_seg dksL_law_13 23 rfl rfl
theorem dksL_law_15 : cL_law.data.toList.drop 494 = dktL_law_15 := dk_seg dksL_law_14 22 rfl rfl
theorem dksL_law_16 : cL_law.data.toList.drop 517 = dktL_law_16 := dk_seg dksL_law_15 23 rfl rfl
theorem dksL_law_17 : cL_law.data.toList.drop 541 = dktL_law_17 := dk_seg dksL_law_16 24 rfl rfl
theorem dksL_law_18 : cL_law.data.toList.drop 565 = dktL_law_18 := dk_seg dksL_law_17 24 rfl rfl
theorem dksL_law_19 : cL_law.data.toList.drop 588 = dktL_law_19 := dk_seg dksL_law_18 23 rfl rfl
theorem dksL_law_20 : cL_law.data.toList.drop 611 = dktL_law_20 := dk_seg dksL_law_19 23 rfl rfl
theorem dksL_law_21 : cL_law.data.toList.drop 635 = dktL_law_21 := dk_seg dksL_law_20 24 rfl rfl
theorem dksL_law_22 : cL_law.data.toList.drop 659 = dktL_law_22 := dk_seg dksL_law_21 24 rfl rfl
theorem dksL_law_23 : cL_law.data.toList.drop 683 = dktL_law_23 := dk_seg dksL_law_22 24 rfl rfl
theorem dksL_law_24 : cL_law.data.toList.drop 707 = dktL_law_24 := dk_seg dksL_law_23 24 rfl rfl
theorem dksL_law_25 : cL_law.data.toList.drop 731 = dktL_law_25 := dk_seg dksL_law_24 24 rfl rfl
theorem dksL_law_26 : cL_law.data.toList.drop 755 = dktL_law_26 := dk_seg dksL_law_25 24 rfl rfl
theorem dksL_law_27 : cL_law.data.toList.drop 779 = dktL_law_27 := dk_seg dksL_law_26 24 rfl rfl
theorem dksL_law_28 : cL_law.data.toList.drop 802 = dktL_law_28 := dk_seg dksL_law_27 23 rfl rfl
theorem dksL_law_29 : cL_law.data.toList.drop 825 = dktL_law_29 := dk_seg dksL_law_28 23 rfl rfl
theorem dksL_law_30 : cL_law.data.toList.drop 848 = dktL_law_30 := dk_seg dksL_law_29 23 rfl rfl
theorem dksL_law_31 : cL_law.data.toList.drop 871 = dktL_law_31 := dk_seg dksL_law_30 23 rfl rfl
theorem dksL_law_32 : cL_law.data.toList.drop 895 = dktL_law_32 := dk_seg dksL_law_31 24 rfl rfl
theorem dksL_law_33 : cL_law.data.toList.drop 918 = dktL_law_33 := dk_seg dksL_law_32 23 rfl rfl
theorem dksL_law_34 : cL_law.data.toList.drop 942 = dktL_law_34 := dk_seg dksL_law_33 24 rfl rfl
theorem dksL_law_35 : cL_law.data.toList.drop 965 = dktL_law_35 := dk_seg dksL_law_34 23 rfl rfl
theorem dksL_law_36 : cL_law.data.toList.drop 989 = dktL_law_36 := dk_seg dksL_law_35 24 rfl rfl
theorem dksL_law_37 : cL_law.data.toList.drop 1012 = dktL_law_37 := dk_seg dksL_law_36 23 rfl rfl
theorem dksL_law_38 : cL_law.data.toList.drop 1036 = dktL_law_38 := dk_seg dksL_law_37 24 rfl rfl
theorem dksL_law_39 : cL_law.data.toList.drop 1059 = dktL_law_39 := dk_seg dksL_law_38 23 rfl rfl
theorem dksL_law_40 : cL_law.data.toList.drop 1083 = dktL_law_40 := dk_seg dksL_law_39 24 rfl rfl
theorem dksL_law_41 : cL_law.data.toList.drop 1107 = dktL_law_41 := dk_seg dksL_law_40 24 rfl rfl
theorem dksL_law_42 : cL_law.data.toList.drop 1130 = dktL_law_42 := dk_seg dksL_law_41 23 rfl rfl
theorem dksL_law_43 : cL_law.data.toList.drop 1154 = dktL_law_43 := dk_seg dksL_law_42 24 rfl rfl
theorem dksL_law_44 : cL_law.data.toList.drop 1178 = dktL_law_44 := dk_seg dksL_law_43 24 rfl rfl
theorem dksL_law_45 : cL_law.data.toList.drop 1202 = dktL_law_45 := dk_seg dksL_law_44 24 rfl rfl
theorem dksL_law_46 : cL_law.data.toList.drop 1226 = dktL_law_46 := dk_seg dksL_law_45 24 rfl rfl
theorem dksL_law_47 : cL_law.data.toList.drop 1249 = dktL_law_47 := dk_seg dksL_law_46 23 rfl rfl
theorem dksL_law_48 : cL_law.data.toList.drop 1273 = dktL_law_48 := dk_seg dksL_law_47 24 rfl rfl
theorem dksL_law_49 : cL_law.data.toList.drop 1297 = dktL_law_49 := dk_seg dksL_law_48 24 rfl rfl
theorem dksL_law_50 : cL_law.data.toList.drop 1319 = dktL_law_50 := dk_seg dksL_law_49 22 rfl rfl
theorem dksL_law_51 : cL_law.data.toList.drop 1341 = dktL_law_51 := dk_seg dksL_law_50 22 rfl rfl
theorem dksL_law_52 : cL_law.data.toList.drop 1364 = dktL_law_52 := dk_seg dksL_law_51 23 rfl rfl
theorem dksL_law_53 : cL_law.data.toList.drop 1388 = dktL_law_53 := dk_seg dksL_law_52 24 rfl rfl
theorem dksL_law_54 : cL_law.data.toList.drop 1412 = dktL_law_54 := dk_seg dksL_law_53 24 rfl rfl
theorem dksL_law_55 : cL_law.data.toList.drop 1435 = dktL_law_55 := dk_seg dksL_law_54 23 rfl rfl
theorem dksL_law_56 : cL_law.data.toList.drop 1458 = dktL_law_56 := dk_seg dksL_law_55 23 rfl rfl
theorem dksL_law_57 : cL_law.data.toList.drop 1482 = dktL_law_57 := dk_seg dksL_law_56 24 rfl rfl
theorem dksL_law_58 : cL_law.data.toList.drop 1506 = dktL_law_58 := dk_seg dksL_law_57 24 rfl rfl
theorem dksL_law_59 : cL_law.data.toList.drop 1528 = dktL_law_59 := dk_seg dksL_law_58 22 rfl rfl
theorem dksL_law_60 : cL_law.data.toList.drop 1552 = dktL_law_60 := dk_seg dksL_law_59 24 rfl rfl
theorem dksL_law_61 : cL_law.data.toList.drop 1575 = dktL_law_61 := dk_seg dksL_law_60 23 rfl rfl
theorem dksL_law_62 : cL_law.data.toList.drop 1597 = dktL_law_62 := dk_seg dksL_law_61 22 rfl rfl
theorem dksL_law_63 : cL_law.data.toList.drop 1620 = dktL_law_63 := dk_seg dksL_law_62 23 rfl rfl
theorem dksL_law_64 : cL_law.data.toList.drop 1644 = dktL_law_64 := dk_seg dksL_law_63 24 rfl rfl
theorem dksL_law_65 : cL_law.data.toList.drop 1668 = dktL_law_65 := dk_seg dksL_law_64 24 rfl rfl
theorem dksL_law_66 : cL_law.data.toList.drop 1691 = dktL_law_66 := dk_seg dksL_law_65 23 rfl rfl
theorem dksL_law_67 : cL_law.data.toList.drop 1715 = dktL_law_67 := dk_seg dksL_law_66 24 rfl rfl
theorem dksL_law_68 : cL_law.data.toList.drop 1739 = dktL_law_68 := dk_seg dksL_law_67 24 rfl rfl
theorem dksL_law_69 : cL_law.data.toList.drop 1763 = dktL_law_69 := dk_seg dksL_law_68 24 rfl rfl
theorem dksL_law_70 : cL_law.data.toList.drop 1786 = dktL_law_70 := dk_seg dksL_law_69 23 rfl rfl
theorem dksL_law_71 : cL_law.data.toList.drop 1809 = dktL_law_71 := dk_seg dksL_law_70 23 rfl rfl
theorem dksL_law_72 : cL_law.data.toList.drop 1832 = dktL_law_72 := dk_seg dksL_law_71 23 rfl rfl
theorem dksL_law_73 : cL_law.data.toList.drop 1856 = dktL_law_73 := dk_seg dksL_law_72 24 rfl rfl
theorem dksL_law_74 : cL_law.data.toList.drop 1879 = dktL_law_74 := dk_seg dksL_law_73 23 rfl rfl
theorem dksL_law_75 : cL_law.data.toList.drop 1903 = dktL_law_75 := dk_seg dksL_law_74 24 rfl rfl
theorem dksL_law_76 : cL_law.data.toList.drop 1927 = dktL_law_76 := dk_seg dksL_law_75 24 rfl rfl
theorem dksL_law_77 : cL_law.data.toList.drop 1951 = dktL_law_77 := dk_seg dksL_law_76 24 rfl rfl
theorem dksL_law_78 : cL_law.data.toList.drop 1973 = dktL_law_78 := dk_seg dksL_law_77 22 rfl rfl
theorem dksL_law_79 : cL_law.data.toList.drop 1997 = dktL_law_79 := dk_seg dksL_law_78 24 rfl rfl
theorem dksL_law_80 : cL_law.data.toList.drop 2020 = dktL_law_80 := dk_seg dksL_law_79 23 rfl rfl
theorem dksL_law_81 : cL_law.data.toList.drop 2044 = dktL_law_81 := dk_seg dksL_law_80 24 rfl rfl
theorem dksL_law_82 : cL_law.data.toList.drop 2067 = dktL_law_82 := dk_seg dksL_law_81 23 rfl rfl
theorem dksL_law_83 : cL_law.data.toList.drop 2089 = dktL_law_83 := dk_seg dksL_law_82 22 rfl rfl
theorem dksL_law_84 : cL_law.data.toList.drop 2113 = dktL_law_84 := dk_seg dksL_law_83 24 rfl rfl
theorem dksL_law_85 : cL_law.data.toList.drop 2135 = dktL_law_85 := dk_seg dksL_law_84 22 rfl rfl
theorem dksL_law_86 : cL_law.data.toList.drop 2159 = dktL_law_86 := dk_seg dksL_law_85 24 rfl rfl
theorem dksL_law_87 : cL_law.data.toList.drop 2182 = dktL_law_87 := dk_seg dksL_law_86 23 rfl rfl
theorem dksL_law_88 : cL_law.data.toList.drop 2205 = dktL_law_88 := dk_seg dksL_law_87 23 rfl rfl
theorem dksL_law_89 : cL_law.data.toList.drop 2229 = dktL_law_89 := dk_seg dksL_law_88 24 rfl rfl
theorem dksL_law_90 : cL_law.data.toList.drop 2253 = dktL_law_90 := dk_seg dksL_law_89 24 rfl rfl
theorem dksL_law_91 : cL_law.data.toList.drop 2277 = dktL_law_91 := dk_seg dksL_law_90 24 rfl rfl
theorem dksL_law_92 : cL_law.data.toList.drop 2299 = dktL_law_92 := dk_seg dksL_law_91 22 rfl rfl
theorem dksL_law_93 : cL_law.data.toList.drop 2323 = dktL_law_93 := dk_seg dksL_law_92 24 rfl rfl
theorem dL_law_0 : decode cL_law 0 = .ok (.new 8, 3) := dk_187 0 8 (dk_at dksL_law_0 0 rfl rfl)
theorem dL_law_3 : decode cL_law 3 = .ok (.dup, 1) := dk_89 (dk_at dksL_law_0 3 rfl rfl)
theorem dL_law_4 : decode cL_law 4 = .ok (.invokespecial 130, 3) := dk_183 0 130 (dk_at dksL_law_0 4 rfl rfl)
theorem dL_law_7 : decode cL_law 7 = .ok (.astore_n 1, 1) := dk_76 (dk_at dksL_law_0 7 rfl rfl)
theorem dL_law_8 : decode cL_law 8 = .ok (.new 131, 3) := dk_187 0 131 (dk_at dksL_law_0 8 rfl rfl)
theorem dL_law_11 : decode cL_law 11 = .ok (.dup, 1) := dk_89 (dk_at dksL_law_0 11 rfl rfl)
theorem dL_law_12 : decode cL_law 12 = .ok (.invokespecial 133, 3) := dk_183 0 133 (dk_at dksL_law_0 12 rfl rfl)
theorem dL_law_15 : decode cL_law 15 = .ok (.astore_n 2, 1) := dk_77 (dk_at dksL_law_0 15 rfl rfl)
theorem dL_law_16 : decode cL_law 16 = .ok (.iconst 1, 1) := dk_4 (dk_at dksL_law_0 16 rfl rfl)
theorem dL_law_17 : decode cL_law 17 = .ok (.newarray .long, 2) := dk_188_11 (dk_at dksL_law_0 17 rfl rfl)
theorem dL_law_19 : decode cL_law 19 = .ok (.astore_n 3, 1) := dk_78 (dk_at dksL_law_0 19 rfl rfl)
theorem dL_law_20 : decode cL_law 20 = .ok (.iconst 1, 1) := dk_4 (dk_at dksL_law_0 20 rfl rfl)
theorem dL_law_21 : decode cL_law 21 = .ok (.newarray .double, 2) := dk_188_7 (dk_at dksL_law_0 21 rfl rfl)
theorem dL_law_23 : decode cL_law 23 = .ok (.astore 4, 2) := dk_58 4 (dk_at dksL_law_1 0 rfl rfl)
theorem dL_law_25 : decode cL_law 25 = .ok (.iconst 0, 1) := dk_3 (dk_at dksL_law_1 2 rfl rfl)
theorem dL_law_26 : decode cL_law 26 = .ok (.istore 5, 2) := dk_54 5 (dk_at dksL_law_1 3 rfl rfl)
theorem dL_law_28 : decode cL_law 28 = .ok (.iload 5, 2) := dk_21 5 (dk_at dksL_law_1 5 rfl rfl)
theorem dL_law_30 : decode cL_law 30 = .ok (.aload_n 0, 1) := dk_42 (dk_at dksL_law_1 7 rfl rfl)
theorem dL_law_31 : decode cL_law 31 = .ok (.arraylength, 1) := dk_190 (dk_at dksL_law_1 8 rfl rfl)
theorem dL_law_32 : decode cL_law 32 = .ok (.iconst 4, 1) := dk_7 (dk_at dksL_law_1 9 rfl rfl)
theorem dL_law_33 : decode cL_law 33 = .ok (.isub, 1) := dk_100 (dk_at dksL_law_1 10 rfl rfl)
theorem dL_law_34 : decode cL_law 34 = .ok (.if_icmp .gt 2297, 3) := dk_163 8 249 (dk_at dksL_law_1 11 rfl rfl)
theorem dL_law_37 : decode cL_law 37 = .ok (.aload_n 0, 1) := dk_42 (dk_at dksL_law_1 14 rfl rfl)
theorem dL_law_38 : decode cL_law 38 = .ok (.iload 5, 2) := dk_21 5 (dk_at dksL_law_1 15 rfl rfl)
theorem dL_law_40 : decode cL_law 40 = .ok (.iaload, 1) := dk_46 (dk_at dksL_law_1 17 rfl rfl)
theorem dL_law_41 : decode cL_law 41 = .ok (.bipush 63, 2) := dk_16 63 (dk_at dksL_law_1 18 rfl rfl)
theorem dL_law_43 : decode cL_law 43 = .ok (.iand, 1) := dk_126 (dk_at dksL_law_1 20 rfl rfl)
theorem dL_law_44 : decode cL_law 44 = .ok (.tableswitch 2281 0 38 #[172, 216, 272, 328, 353, 397, 453, 509, 584, 652, 720, 776, 789, 845, 901, 957, 1013, 1057, 1120, 1176, 1232, 1300, 1356, 1431, 1487, 1500, 1556, 1612, 1680, 1750, 1806, 1869, 1932, 1945, 2048, 2123, 2189, 2254, 2268], 172) := by decide +kernel
theorem dL_law_216 : decode cL_law 216 = .ok (.aload_n 1, 1) := dk_43 (dk_at dksL_law_3 0 rfl rfl)
theorem dL_law_217 : decode cL_law 217 = .ok (.aload_n 3, 1) := dk_45 (dk_at dksL_law_3 1 rfl rfl)
theorem dL_law_218 : decode cL_law 218 = .ok (.invokestatic 134, 3) := dk_184 0 134 (dk_at dksL_law_3 2 rfl rfl)
theorem dL_law_221 : decode cL_law 221 = .ok (.istore 6, 2) := dk_54 6 (dk_at dksL_law_3 5 rfl rfl)
theorem dL_law_223 : decode cL_law 223 = .ok (.aload_n 2, 1) := dk_44 (dk_at dksL_law_3 7 rfl rfl)
theorem dL_law_224 : decode cL_law 224 = .ok (.invokevirtual 139, 3) := dk_182 0 139 (dk_at dksL_law_3 8 rfl rfl)
theorem dL_law_227 : decode cL_law 227 = .ok (.istore 7, 2) := dk_54 7 (dk_at dksL_law_3 11 rfl rfl)
theorem dL_law_229 : decode cL_law 229 = .ok (.aload_n 2, 1) := dk_44 (dk_at dksL_law_3 13 rfl rfl)
theorem dL_law_230 : decode cL_law 230 = .ok (.invokevirtual 140, 3) := dk_182 0 140 (dk_at dksL_law_3 14 rfl rfl)
theorem dL_law_233 : decode cL_law 233 = .ok (.iload 6, 2) := dk_21 6 (dk_at dksL_law_3 17 rfl rfl)
theorem dL_law_235 : decode cL_law 235 = .ok (.if_icmp .eq 5, 3) := dk_159 0 5 (dk_at dksL_law_3 19 rfl rfl)
theorem dL_law_238 : decode cL_law 238 = .ok (.iconst 0, 1) := dk_3 (dk_at dksL_law_3 22 rfl rfl)
theorem dL_law_239 : decode cL_law 239 = .ok (.ireturn, 1) := dk_172 (dk_at dksL_law_3 23 rfl rfl)
theorem dL_law_240 : decode cL_law 240 = .ok (.iload 6, 2) := dk_21 6 (dk_at dksL_law_4 0 rfl rfl)
theorem dL_law_242 : decode cL_law 242 = .ok (.ifCond .ne 15, 3) := dk_154 0 15 (dk_at dksL_law_4 2 rfl rfl)
theorem dL_law_245 : decode cL_law 245 = .ok (.aload_n 3, 1) := dk_45 (dk_at dksL_law_4 5 rfl rfl)
theorem dL_law_246 : decode cL_law 246 = .ok (.iconst 0, 1) := dk_3 (dk_at dksL_law_4 6 rfl rfl)
theorem dL_law_247 : decode cL_law 247 = .ok (.laload, 1) := dk_47 (dk_at dksL_law_4 7 rfl rfl)
theorem dL_law_248 : decode cL_law 248 = .ok (.iload 7, 2) := dk_21 7 (dk_at dksL_law_4 8 rfl rfl)
theorem dL_law_250 : decode cL_law 250 = .ok (.i2l, 1) := dk_133 (dk_at dksL_law_4 10 rfl rfl)
theorem dL_law_251 : decode cL_law 251 = .ok (.lcmp, 1) := dk_148 (dk_at dksL_law_4 11 rfl rfl)
theorem dL_law_252 : decode cL_law 252 = .ok (.ifCond .eq 5, 3) := dk_153 0 5 (dk_at dksL_law_4 12 rfl rfl)
theorem dL_law_255 : decode cL_law 255 = .ok (.iconst 0, 1) := dk_3 (dk_at dksL_law_4 15 rfl rfl)
theorem dL_law_256 : decode cL_law 256 = .ok (.ireturn, 1) := dk_172 (dk_at dksL_law_4 16 rfl rfl)
theorem dL_law_257 : decode cL_law 257 = .ok (.goto 2068, 3) := dk_167 8 20 (dk_at dksL_law_4 17 rfl rfl)
theorem dL_law_260 : decode cL_law 260 = .ok (.aload_n 1, 1) := dk_43 (dk_at dksL_law_4 20 rfl rfl)
theorem dL_law_261 : decode cL_law 261 = .ok (.aload_n 0, 1) := dk_42 (dk_at dksL_law_4 21 rfl rfl)
theorem dL_law_262 : decode cL_law 262 = .ok (.iload 5, 2) := dk_21 5 (dk_at dksL_law_4 22 rfl rfl)
theorem dL_law_264 : decode cL_law 264 = .ok (.iconst 1, 1) := dk_4 (dk_at dksL_law_5 0 rfl rfl)
theorem dL_law_265 : decode cL_law 265 = .ok (.iadd, 1) := dk_96 (dk_at dksL_law_5 1 rfl rfl)
theorem dL_law_266 : decode cL_law 266 = .ok (.iaload, 1) := dk_46 (dk_at dksL_law_5 2 rfl rfl)
theorem dL_law_267 : decode cL_law 267 = .ok (.aload_n 3, 1) := dk_45 (dk_at dksL_law_5 3 rfl rfl)
theorem dL_law_268 : decode cL_law 268 = .ok (.invokestatic 143, 3) := dk_184 0 143 (dk_at dksL_law_5 4 rfl rfl)
theorem dL_law_271 : decode cL_law 271 = .ok (.istore 6, 2) := dk_54 6 (dk_at dksL_law_5 7 rfl rfl)
theorem dL_law_273 : decode cL_law 273 = .ok (.aload_n 2, 1) := dk_44 (dk_at dksL_law_5 9 rfl rfl)
theorem dL_law_274 : decode cL_law 274 = .ok (.aload_n 0, 1) := dk_42 (dk_at dksL_law_5 10 rfl rfl)
theorem dL_law_275 : decode cL_law 275 = .ok (.iload 5, 2) := dk_21 5 (dk_at dksL_law_5 11 rfl rfl)
theorem dL_law_277 : decode cL_law 277 = .ok (.iconst 1, 1) := dk_4 (dk_at dksL_law_5 13 rfl rfl)
theorem dL_law_278 : decode cL_law 278 = .ok (.iadd, 1) := dk_96 (dk_at dksL_law_5 14 rfl rfl)
theorem dL_law_279 : decode cL_law 279 = .ok (.iaload, 1) := dk_46 (dk_at dksL_law_5 15 rfl rfl)
theorem dL_law_280 : decode cL_law 280 = .ok (.invokevirtual 146, 3) := dk_182 0 146 (dk_at dksL_law_5 16 rfl rfl)
theorem dL_law_283 : decode cL_law 283 = .ok (.istore 7, 2) := dk_54 7 (dk_at dksL_law_5 19 rfl rfl)
theorem dL_law_285 : decode cL_law 285 = .ok (.aload_n 2, 1) := dk_44 (dk_at dksL_law_5 21 rfl rfl)
theorem dL_law_286 : decode cL_law 286 = .ok (.invokevirtual 140, 3) := dk_182 0 140 (dk_at dksL_law_6 0 rfl rfl)
theorem dL_law_289 : decode cL_law 289 = .ok (.iload 6, 2) := dk_21 6 (dk_at dksL_law_6 3 rfl rfl)
theorem dL_law_291 : decode cL_law 291 = .ok (.if_icmp .eq 5, 3) := dk_159 0 5 (dk_at dksL_law_6 5 rfl rfl)
theorem dL_law_294 : decode cL_law 294 = .ok (.iconst 0, 1) := dk_3 (dk_at dksL_law_6 8 rfl rfl)
theorem dL_law_295 : decode cL_law 295 = .ok (.ireturn, 1) := dk_172 (dk_at dksL_law_6 9 rfl rfl)
theorem dL_law_296 : decode cL_law 296 = .ok (.iload 6, 2) := dk_21 6 (dk_at dksL_law_6 10 rfl rfl)
theorem dL_law_298 : decode cL_law 298 = .ok (.ifCond .ne 15, 3) := dk_154 0 15 (dk_at dksL_law_6 12 rfl rfl)
theorem dL_law_301 : decode cL_law 301 = .ok (.aload_n 3, 1) := dk_45 (dk_at dksL_law_6 15 rfl rfl)
theorem dL_law_302 : decode cL_law 302 = .ok (.iconst 0, 1) := dk_3 (dk_at dksL_law_6 16 rfl rfl)
theorem dL_law_303 : decode cL_law 303 = .ok (.laload, 1) := dk_47 (dk_at dksL_law_6 17 rfl rfl)
theorem dL_law_304 : decode cL_law 304 = .ok (.iload 7, 2) := dk_21 7 (dk_at dksL_law_6 18 rfl rfl)
theorem dL_law_306 : decode cL_law 306 = .ok (.i2l, 1) := dk_133 (dk_at dksL_law_6 20 rfl rfl)
theorem dL_law_307 : decode cL_law 307 = .ok (.lcmp, 1) := dk_148 (dk_at dksL_law_6 21 rfl rfl)
theorem dL_law_308 : decode cL_law 308 = .ok (.ifCond .eq 5, 3) := dk_153 0 5 (dk_at dksL_law_7 0 rfl rfl)
theorem dL_law_311 : decode cL_law 311 = .ok (.iconst 0, 1) := dk_3 (dk_at dksL_law_7 3 rfl rfl)
theorem dL_law_312 : decode cL_law 312 = .ok (.ireturn, 1) := dk_172 (dk_at dksL_law_7 4 rfl rfl)
theorem dL_law_313 : decode cL_law 313 = .ok (.goto 2012, 3) := dk_167 7 220 (dk_at dksL_law_7 5 rfl rfl)
theorem dL_law_316 : decode cL_law 316 = .ok (.aload_n 1, 1) := dk_43 (dk_at dksL_law_7 8 rfl rfl)
theorem dL_law_317 : decode cL_law 317 = .ok (.aload_n 0, 1) := dk_42 (dk_at dksL_law_7 9 rfl rfl)
theorem dL_law_318 : decode cL_law 318 = .ok (.iload 5, 2) := dk_21 5 (dk_at dksL_law_7 10 rfl rfl)
theorem dL_law_320 : decode cL_law 320 = .ok (.iconst 1, 1) := dk_4 (dk_at dksL_law_7 12 rfl rfl)
theorem dL_law_321 : decode cL_law 321 = .ok (.iadd, 1) := dk_96 (dk_at dksL_law_7 13 rfl rfl)
theorem dL_law_322 : decode cL_law 322 = .ok (.iaload, 1) := dk_46 (dk_at dksL_law_7 14 rfl rfl)
theorem dL_law_323 : decode cL_law 323 = .ok (.aload_n 3, 1) := dk_45 (dk_at dksL_law_7 15 rfl rfl)
theorem dL_law_324 : decode cL_law 324 = .ok (.invokestatic 147, 3) := dk_184 0 147 (dk_at dksL_law_7 16 rfl rfl)
theorem dL_law_327 : decode cL_law 327 = .ok (.istore 6, 2) := dk_54 6 (dk_at dksL_law_7 19 rfl rfl)
theorem dL_law_329 : decode cL_law 329 = .ok (.aload_n 2, 1) := dk_44 (dk_at dksL_law_7 21 rfl rfl)
theorem dL_law_330 : decode cL_law 330 = .ok (.aload_n 0, 1) := dk_42 (dk_at dksL_law_7 22 rfl rfl)
theorem dL_law_331 : decode cL_law 331 = .ok (.iload 5, 2) := dk_21 5 (dk_at dksL_law_8 0 rfl rfl)
theorem dL_law_333 : decode cL_law 333 = .ok (.iconst 1, 1) := dk_4 (dk_at dksL_law_8 2 rfl rfl)
theorem dL_law_334 : decode cL_law 334 = .ok (.iadd, 1) := dk_96 (dk_at dksL_law_8 3 rfl rfl)
theorem dL_law_335 : decode cL_law 335 = .ok (.iaload, 1) := dk_46 (dk_at dksL_law_8 4 rfl rfl)
theorem dL_law_336 : decode cL_law 336 = .ok (.invokevirtual 149, 3) := dk_182 0 149 (dk_at dksL_law_8 5 rfl rfl)
theorem dL_law_339 : decode cL_law 339 = .ok (.istore 7, 2) := dk_54 7 (dk_at dksL_law_8 8 rfl rfl)
theorem dL_law_341 : decode cL_law 341 = .ok (.aload_n 2, 1) := dk_44 (dk_at dksL_law_8 10 rfl rfl)
theorem dL_law_342 : decode cL_law 342 = .ok (.invokevirtual 140, 3) := dk_182 0 140 (dk_at dksL_law_8 11 rfl rfl)
theorem dL_law_345 : decode cL_law 345 = .ok (.iload 6, 2) := dk_21 6 (dk_at dksL_law_8 14 rfl rfl)
theorem dL_law_347 : decode cL_law 347 = .ok (.if_icmp .eq 5, 3) := dk_159 0 5 (dk_at dksL_law_8 16 rfl rfl)
theorem dL_law_350 : decode cL_law 350 = .ok (.iconst 0, 1) := dk_3 (dk_at dksL_law_8 19 rfl rfl)
theorem dL_law_351 : decode cL_law 351 = .ok (.ireturn, 1) := dk_172 (dk_at dksL_law_8 20 rfl rfl)
theorem dL_law_352 : decode cL_law 352 = .ok (.iload 6, 2) := dk_21 6 (dk_at dksL_law_8 21 rfl rfl)
theorem dL_law_354 : decode cL_law 354 = .ok (.ifCond .ne 15, 3) := dk_154 0 15 (dk_at dksL_law_9 0 rfl rfl)
theorem dL_law_357 : decode cL_law 357 = .ok (.aload_n 3, 1) := dk_45 (dk_at dksL_law_9 3 rfl rfl)
theorem dL_law_358 : decode cL_law 358 = .ok (.iconst 0, 1) := dk_3 (dk_at dksL_law_9 4 rfl rfl)
theorem dL_law_359 : decode cL_law 359 = .ok (.laload, 1) := dk_47 (dk_at dksL_law_9 5 rfl rfl)
theorem dL_law_360 : decode cL_law 360 = .ok (.iload 7, 2) := dk_21 7 (dk_at dksL_law_9 6 rfl rfl)
theorem dL_law_362 : decode cL_law 362 = .ok (.i2l, 1) := dk_133 (dk_at dksL_law_9 8 rfl rfl)
theorem dL_law_363 : decode cL_law 363 = .ok (.lcmp, 1) := dk_148 (dk_at dksL_law_9 9 rfl rfl)
theorem dL_law_364 : decode cL_law 364 = .ok (.ifCond .eq 5, 3) := dk_153 0 5 (dk_at dksL_law_9 10 rfl rfl)
theorem dL_law_367 : decode cL_law 367 = .ok (.iconst 0, 1) := dk_3 (dk_at dksL_law_9 13 rfl rfl)
theorem dL_law_368 : decode cL_law 368 = .ok (.ireturn, 1) := dk_172 (dk_at dksL_law_9 14 rfl rfl)
theorem dL_law_369 : decode cL_law 369 = .ok (.goto 1956, 3) := dk_167 7 164 (dk_at dksL_law_9 15 rfl rfl)
theorem dL_law_372 : decode cL_law 372 = .ok (.aload_n 1, 1) := dk_43 (dk_at dksL_law_9 18 rfl rfl)
theorem dL_law_373 : decode cL_law 373 = .ok (.aload_n 0, 1) := dk_42 (dk_at dksL_law_9 19 rfl rfl)
theorem dL_law_374 : decode cL_law 374 = .ok (.iload 5, 2) := dk_21 5 (dk_at dksL_law_9 20 rfl rfl)
theorem dL_law_376 : decode cL_law 376 = .ok (.iconst 1, 1) := dk_4 (dk_at dksL_law_9 22 rfl rfl)
theorem dL_law_377 : decode cL_law 377 = .ok (.iadd, 1) := dk_96 (dk_at dksL_law_9 23 rfl rfl)
theorem dL_law_378 : decode cL_law 378 = .ok (.iaload, 1) := dk_46 (dk_at dksL_law_10 0 rfl rfl)
theorem dL_law_379 : decode cL_law 379 = .ok (.invokevirtual 150, 3) := dk_182 0 150 (dk_at dksL_law_10 1 rfl rfl)
theorem dL_law_382 : decode cL_law 382 = .ok (.aload_n 2, 1) := dk_44 (dk_at dksL_law_10 4 rfl rfl)
theorem dL_law_383 : decode cL_law 383 = .ok (.aload_n 0, 1) := dk_42 (dk_at dksL_law_10 5 rfl rfl)
theorem dL_law_384 : decode cL_law 384 = .ok (.iload 5, 2) := dk_21 5 (dk_at dksL_law_10 6 rfl rfl)
theorem dL_law_386 : decode cL_law 386 = .ok (.iconst 1, 1) := dk_4 (dk_at dksL_law_10 8 rfl rfl)
theorem dL_law_387 : decode cL_law 387 = .ok (.iadd, 1) := dk_96 (dk_at dksL_law_10 9 rfl rfl)
theorem dL_law_388 : decode cL_law 388 = .ok (.iaload, 1) := dk_46 (dk_at dksL_law_10 10 rfl rfl)
theorem dL_law_389 : decode cL_law 389 = .ok (.invokevirtual 153, 3) := dk_182 0 153 (dk_at dksL_law_10 11 rfl rfl)
theorem dL_law_392 : decode cL_law 392 = .ok (.if_icmp .eq 1933, 3) := dk_159 7 141 (dk_at dksL_law_10 14 rfl rfl)
theorem dL_law_395 : decode cL_law 395 = .ok (.iconst 0, 1) := dk_3 (dk_at dksL_law_10 17 rfl rfl)
theorem dL_law_396 : decode cL_law 396 = .ok (.ireturn, 1) := dk_172 (dk_at dksL_law_10 18 rfl rfl)
theorem dL_law_397 : decode cL_law 397 = .ok (.aload_n 1, 1) := dk_43 (dk_at dksL_law_10 19 rfl rfl)
theorem dL_law_398 : decode cL_law 398 = .ok (.aload_n 3, 1) := dk_45 (dk_at dksL_law_10 20 rfl rfl)
theorem dL_law_399 : decode cL_law 399 = .ok (.invokestatic 154, 3) := dk_184 0 154 (dk_at dksL_law_10 21 rfl rfl)
theorem dL_law_402 : decode cL_law 402 = .ok (.istore 6, 2) := dk_54 6 (dk_at dksL_law_11 0 rfl rfl)
theorem dL_law_404 : decode cL_law 404 = .ok (.aload_n 2, 1) := dk_44 (dk_at dksL_law_11 2 rfl rfl)
theorem dL_law_405 : decode cL_law 405 = .ok (.invokevirtual 156, 3) := dk_182 0 156 (dk_at dksL_law_11 3 rfl rfl)
theorem dL_law_408 : decode cL_law 408 = .ok (.istore 7, 2) := dk_54 7 (dk_at dksL_law_11 6 rfl rfl)
theorem dL_law_410 : decode cL_law 410 = .ok (.aload_n 2, 1) := dk_44 (dk_at dksL_law_11 8 rfl rfl)
theorem dL_law_411 : decode cL_law 411 = .ok (.invokevirtual 140, 3) := dk_182 0 140 (dk_at dksL_law_11 9 rfl rfl)
theorem dL_law_414 : decode cL_law 414 = .ok (.iload 6, 2) := dk_21 6 (dk_at dksL_law_11 12 rfl rfl)
theorem dL_law_416 : decode cL_law 416 = .ok (.if_icmp .eq 5, 3) := dk_159 0 5 (dk_at dksL_law_11 14 rfl rfl)
theorem dL_law_419 : decode cL_law 419 = .ok (.iconst 0, 1) := dk_3 (dk_at dksL_law_11 17 rfl rfl)
theorem dL_law_420 : decode cL_law 420 = .ok (.ireturn, 1) := dk_172 (dk_at dksL_law_11 18 rfl rfl)
theorem dL_law_421 : decode cL_law 421 = .ok (.iload 6, 2) := dk_21 6 (dk_at dksL_law_11 19 rfl rfl)
theorem dL_law_423 : decode cL_law 423 = .ok (.ifCond .ne 15, 3) := dk_154 0 15 (dk_at dksL_law_11 21 rfl rfl)
theorem dL_law_426 : decode cL_law 426 = .ok (.aload_n 3, 1) := dk_45 (dk_at dksL_law_12 0 rfl rfl)
theorem dL_law_427 : decode cL_law 427 = .ok (.iconst 0, 1) := dk_3 (dk_at dksL_law_12 1 rfl rfl)
theorem dL_law_428 : decode cL_law 428 = .ok (.laload, 1) := dk_47 (dk_at dksL_law_12 2 rfl rfl)
theorem dL_law_429 : decode cL_law 429 = .ok (.iload 7, 2) := dk_21 7 (dk_at dksL_law_12 3 rfl rfl)
theorem dL_law_431 : decode cL_law 431 = .ok (.i2l, 1) := dk_133 (dk_at dksL_law_12 5 rfl rfl)
theorem dL_law_432 : decode cL_law 432 = .ok (.lcmp, 1) := dk_148 (dk_at dksL_law_12 6 rfl rfl)
theorem dL_law_433 : decode cL_law 433 = .ok (.ifCond .eq 5, 3) := dk_153 0 5 (dk_at dksL_law_12 7 rfl rfl)
theorem dL_law_436 : decode cL_law 436 = .ok (.iconst 0, 1) := dk_3 (dk_at dksL_law_12 10 rfl rfl)
theorem dL_law_437 : decode cL_law 437 = .ok (.ireturn, 1) := dk_172 (dk_at dksL_law_12 11 rfl rfl)
theorem dL_law_438 : decode cL_law 438 = .ok (.goto 1887, 3) := dk_167 7 95 (dk_at dksL_law_12 12 rfl rfl)
theorem dL_law_441 : decode cL_law 441 = .ok (.aload_n 1, 1) := dk_43 (dk_at dksL_law_12 15 rfl rfl)
theorem dL_law_442 : decode cL_law 442 = .ok (.aload_n 0, 1) := dk_42 (dk_at dksL_law_12 16 rfl rfl)
theorem dL_law_443 : decode cL_law 443 = .ok (.iload 5, 2) := dk_21 5 (dk_at dksL_law_12 17 rfl rfl)
theorem dL_law_445 : decode cL_law 445 = .ok (.iconst 1, 1) := dk_4 (dk_at dksL_law_12 19 rfl rfl)
theorem dL_law_446 : decode cL_law 446 = .ok (.iadd, 1) := dk_96 (dk_at dksL_law_12 20 rfl rfl)
theorem dL_law_447 : decode cL_law 447 = .ok (.iaload, 1) := dk_46 (dk_at dksL_law_12 21 rfl rfl)
theorem dL_law_448 : decode cL_law 448 = .ok (.aload_n 3, 1) := dk_45 (dk_at dksL_law_12 22 rfl rfl)
theorem dL_law_449 : decode cL_law 449 = .ok (.invokestatic 157, 3) := dk_184 0 157 (dk_at dksL_law_13 0 rfl rfl)
theorem dL_law_452 : decode cL_law 452 = .ok (.istore 6, 2) := dk_54 6 (dk_at dksL_law_13 3 rfl rfl)
theorem dL_law_454 : decode cL_law 454 = .ok (.aload_n 2, 1) := dk_44 (dk_at dksL_law_13 5 rfl rfl)
theorem dL_law_455 : decode cL_law 455 = .ok (.aload_n 0, 1) := dk_42 (dk_at dksL_law_13 6 rfl rfl)
theorem dL_law_456 : decode cL_law 456 = .ok (.iload 5, 2) := dk_21 5 (dk_at dksL_law_13 7 rfl rfl)
theorem dL_law_458 : decode cL_law 458 = .ok (.iconst 1, 1) := dk_4 (dk_at dksL_law_13 9 rfl rfl)
theorem dL_law_459 : decode cL_law 459 = .ok (.iadd, 1) := dk_96 (dk_at dksL_law_13 10 rfl rfl)
theorem dL_law_460 : decode cL_law 460 = .ok (.iaload, 1) := dk_46 (dk_at dksL_law_13 11 rfl rfl)
theorem dL_law_461 : decode cL_law 461 = .ok (.invokevirtual 159, 3) := dk_182 0 159 (dk_at dksL_law_13 12 rfl rfl)
theorem dL_law_464 : decode cL_law 464 = .ok (.istore 7, 2) := dk_54 7 (dk_at dksL_law_13 15 rfl rfl)
theorem dL_law_466 : decode cL_law 466 = .ok (.aload_n 2, 1) := dk_44 (dk_at dksL_law_13 17 rfl rfl)
theorem dL_law_467 : decode cL_law 467 = .ok (.invokevirtual 140, 3) := dk_182 0 140 (dk_at dksL_law_13 18 rfl rfl)
theorem dL_law_470 : decode cL_law 470 = .ok (.iload 6, 2) := dk_21 6 (dk_at dksL_law_13 21 rfl rfl)
theorem dL_law_472 : decode cL_law 472 = .ok (.if_icmp .eq 5, 3) := dk_159 0 5 (dk_at dksL_law_14 0 rfl rfl)
theorem dL_law_475 : decode cL_law 475 = .ok (.iconst 0, 1) := dk_3 (dk_at dksL_law_14 3 rfl rfl)
theorem dL_law_476 : decode cL_law 476 = .ok (.ireturn, 1) := dk_172 (dk_at dksL_law_14 4 rfl rfl)
theorem dL_law_477 : decode cL_law 477 = .ok (.iload 6, 2) := dk_21 6 (dk_at dksL_law_14 5 rfl rfl)
theorem dL_law_479 : decode cL_law 479 = .ok (.ifCond .ne 15, 3) := dk_154 0 15 (dk_at dksL_law_14 7 rfl rfl)
theorem dL_law_482 : decode cL_law 482 = .ok (.aload_n 3, 1) := dk_45 (dk_at dksL_law_14 10 rfl rfl)
theorem dL_law_483 : decode cL_law 483 = .ok (.iconst 0, 1) := dk_3 (dk_at dksL_law_14 11 rfl rfl)
theorem dL_law_484 : decode cL_law 484 = .ok (.laload, 1) := dk_47 (dk_at dksL_law_14 12 rfl rfl)
theorem dL_law_485 : decode cL_law 485 = .ok (.iload 7, 2) := dk_21 7 (dk_at dksL_law_14 13 rfl rfl)
theorem dL_law_487 : decode cL_law 487 = .ok (.i2l, 1) := dk_133 (dk_at dksL_law_14 15 rfl rfl)
theorem dL_law_488 : decode cL_law 488 = .ok (.lcmp, 1) := dk_148 (dk_at dksL_law_14 16 rfl rfl)
theorem dL_law_489 : decode cL_law 489 = .ok (.ifCond .eq 5, 3) := dk_153 0 5 (dk_at dksL_law_14 17 rfl rfl)
theorem dL_law_492 : decode cL_law 492 = .ok (.iconst 0, 1) := dk_3 (dk_at dksL_law_14 20 rfl rfl)
theorem dL_law_493 : decode cL_law 493 = .ok (.ireturn, 1) := dk_172 (dk_at dksL_law_14 21 rfl rfl)
theorem dL_law_494 : decode cL_law 494 = .ok (.goto 1831, 3) := dk_167 7 39 (dk_at dksL_law_15 0 rfl rfl)
theorem dL_law_497 : decode cL_law 497 = .ok (.aload_n 1, 1) := dk_43 (dk_at dksL_law_15 3 rfl rfl)
theorem dL_law_498 : decode cL_law 498 = .ok (.aload_n 0, 1) := dk_42 (dk_at dksL_law_15 4 rfl rfl)
theorem dL_law_499 : decode cL_law 499 = .ok (.iload 5, 2) := dk_21 5 (dk_at dksL_law_15 5 rfl rfl)
theorem dL_law_501 : decode cL_law 501 = .ok (.iconst 1, 1) := dk_4 (dk_at dksL_law_15 7 rfl rfl)
theorem dL_law_502 : decode cL_law 502 = .ok (.iadd, 1) := dk_96 (dk_at dksL_law_15 8 rfl rfl)
theorem dL_law_503 : decode cL_law 503 = .ok (.iaload, 1) := dk_46 (dk_at dksL_law_15 9 rfl rfl)
theorem dL_law_504 : decode cL_law 504 = .ok (.aload_n 3, 1) := dk_45 (dk_at dksL_law_15 10 rfl rfl)
theorem dL_law_505 : decode cL_law 505 = .ok (.invokestatic 160, 3) := dk_184 0 160 (dk_at dksL_law_15 11 rfl rfl)
theorem dL_law_508 : decode cL_law 508 = .ok (.istore 6, 2) := dk_54 6 (dk_at dksL_law_15 14 rfl rfl)
theorem dL_law_510 : decode cL_law 510 = .ok (.aload_n 2, 1) := dk_44 (dk_at dksL_law_15 16 rfl rfl)
theorem dL_law_511 : decode cL_law 511 = .ok (.aload_n 0, 1) := dk_42 (dk_at dksL_law_15 17 rfl rfl)
theorem dL_law_512 : decode cL_law 512 = .ok (.iload 5, 2) := dk_21 5 (dk_at dksL_law_15 18 rfl rfl)
theorem dL_law_514 : decode cL_law 514 = .ok (.iconst 1, 1) := dk_4 (dk_at dksL_law_15 20 rfl rfl)
theorem dL_law_515 : decode cL_law 515 = .ok (.iadd, 1) := dk_96 (dk_at dksL_law_15 21 rfl rfl)
theorem dL_law_516 : decode cL_law 516 = .ok (.iaload, 1) := dk_46 (dk_at dksL_law_15 22 rfl rfl)
theorem dL_law_517 : decode cL_law 517 = .ok (.invokevirtual 162, 3) := dk_182 0 162 (dk_at dksL_law_16 0 rfl rfl)
theorem dL_law_520 : decode cL_law 520 = .ok (.istore 7, 2) := dk_54 7 (dk_at dksL_law_16 3 rfl rfl)
theorem dL_law_522 : decode cL_law 522 = .ok (.aload_n 2, 1) := dk_44 (dk_at dksL_law_16 5 rfl rfl)
theorem dL_law_523 : decode cL_law 523 = .ok (.invokevirtual 140, 3) := dk_182 0 140 (dk_at dksL_law_16 6 rfl rfl)
theorem dL_law_526 : decode cL_law 526 = .ok (.iload 6, 2) := dk_21 6 (dk_at dksL_law_16 9 rfl rfl)
theorem dL_law_528 : decode cL_law 528 = .ok (.if_icmp .eq 5, 3) := dk_159 0 5 (dk_at dksL_law_16 11 rfl rfl)
theorem dL_law_531 : decode cL_law 531 = .ok (.iconst 0, 1) := dk_3 (dk_at dksL_law_16 14 rfl rfl)
theorem dL_law_532 : decode cL_law 532 = .ok (.ireturn, 1) := dk_172 (dk_at dksL_law_16 15 rfl rfl)
theorem dL_law_533 : decode cL_law 533 = .ok (.iload 6, 2) := dk_21 6 (dk_at dksL_law_16 16 rfl rfl)
theorem dL_law_535 : decode cL_law 535 = .ok (.ifCond .ne 15, 3) := dk_154 0 15 (dk_at dksL_law_16 18 rfl rfl)
theorem dL_law_538 : decode cL_law 538 = .ok (.aload_n 3, 1) := dk_45 (dk_at dksL_law_16 21 rfl rfl)
theorem dL_law_539 : decode cL_law 539 = .ok (.iconst 0, 1) := dk_3 (dk_at dksL_law_16 22 rfl rfl)
theorem dL_law_540 : decode cL_law 540 = .ok (.laload, 1) := dk_47 (dk_at dksL_law_16 23 rfl rfl)
theorem dL_law_541 : decode cL_law 541 = .ok (.iload 7, 2) := dk_21 7 (dk_at dksL_law_17 0 rfl rfl)
theorem dL_law_543 : decode cL_law 543 = .ok (.i2l, 1) := dk_133 (dk_at dksL_law_17 2 rfl rfl)
theorem dL_law_544 : decode cL_law 544 = .ok (.lcmp, 1) := dk_148 (dk_at dksL_law_17 3 rfl rfl)
theorem dL_law_545 : decode cL_law 545 = .ok (.ifCond .eq 5, 3) := dk_153 0 5 (dk_at dksL_law_17 4 rfl rfl)
theorem dL_law_548 : decode cL_law 548 = .ok (.iconst 0, 1) := dk_3 (dk_at dksL_law_17 7 rfl rfl)
theorem dL_law_549 : decode cL_law 549 = .ok (.ireturn, 1) := dk_172 (dk_at dksL_law_17 8 rfl rfl)
theorem dL_law_550 : decode cL_law 550 = .ok (.goto 1775, 3) := dk_167 6 239 (dk_at dksL_law_17 9 rfl rfl)
theorem dL_law_553 : decode cL_law 553 = .ok (.aload_n 1, 1) := dk_43 (dk_at dksL_law_17 12 rfl rfl)
theorem dL_law_554 : decode cL_law 554 = .ok (.aload_n 0, 1) := dk_42 (dk_at dksL_law_17 13 rfl rfl)
theorem dL_law_555 : decode cL_law 555 = .ok (.iload 5, 2) := dk_21 5 (dk_at dksL_law_17 14 rfl rfl)
theorem dL_law_557 : decode cL_law 557 = .ok (.iconst 1, 1) := dk_4 (dk_at dksL_law_17 16 rfl rfl)
theorem dL_law_558 : decode cL_law 558 = .ok (.iadd, 1) := dk_96 (dk_at dksL_law_17 17 rfl rfl)
theorem dL_law_559 : decode cL_law 559 = .ok (.iaload, 1) := dk_46 (dk_at dksL_law_17 18 rfl rfl)
theorem dL_law_560 : decode cL_law 560 = .ok (.aload_n 0, 1) := dk_42 (dk_at dksL_law_17 19 rfl rfl)
theorem dL_law_561 : decode cL_law 561 = .ok (.iload 5, 2) := dk_21 5 (dk_at dksL_law_17 20 rfl rfl)
theorem dL_law_563 : decode cL_law 563 = .ok (.iconst 2, 1) := dk_5 (dk_at dksL_law_17 22 rfl rfl)
theorem dL_law_564 : decode cL_law 564 = .ok (.iadd, 1) := dk_96 (dk_at dksL_law_17 23 rfl rfl)
theorem dL_law_565 : decode cL_law 565 = .ok (.iaload, 1) := dk_46 (dk_at dksL_law_18 0 rfl rfl)
theorem dL_law_566 : decode cL_law 566 = .ok (.aload_n 3, 1) := dk_45 (dk_at dksL_law_18 1 rfl rfl)
theorem dL_law_567 : decode cL_law 567 = .ok (.invokestatic 163, 3) := dk_184 0 163 (dk_at dksL_law_18 2 rfl rfl)
theorem dL_law_570 : decode cL_law 570 = .ok (.istore 6, 2) := dk_54 6 (dk_at dksL_law_18 5 rfl rfl)
theorem dL_law_572 : decode cL_law 572 = .ok (.aload_n 2, 1) := dk_44 (dk_at dksL_law_18 7 rfl rfl)
theorem dL_law_573 : decode cL_law 573 = .ok (.aload_n 0, 1) := dk_42 (dk_at dksL_law_18 8 rfl rfl)
theorem dL_law_574 : decode cL_law 574 = .ok (.iload 5, 2) := dk_21 5 (dk_at dksL_law_18 9 rfl rfl)
theorem dL_law_576 : decode cL_law 576 = .ok (.iconst 1, 1) := dk_4 (dk_at dksL_law_18 11 rfl rfl)
theorem dL_law_577 : decode cL_law 577 = .ok (.iadd, 1) := dk_96 (dk_at dksL_law_18 12 rfl rfl)
theorem dL_law_578 : decode cL_law 578 = .ok (.iaload, 1) := dk_46 (dk_at dksL_law_18 13 rfl rfl)
theorem dL_law_579 : decode cL_law 579 = .ok (.aload_n 0, 1) := dk_42 (dk_at dksL_law_18 14 rfl rfl)
theorem dL_law_580 : decode cL_law 580 = .ok (.iload 5, 2) := dk_21 5 (dk_at dksL_law_18 15 rfl rfl)
theorem dL_law_582 : decode cL_law 582 = .ok (.iconst 2, 1) := dk_5 (dk_at dksL_law_18 17 rfl rfl)
theorem dL_law_583 : decode cL_law 583 = .ok (.iadd, 1) := dk_96 (dk_at dksL_law_18 18 rfl rfl)
theorem dL_law_584 : decode cL_law 584 = .ok (.iaload, 1) := dk_46 (dk_at dksL_law_18 19 rfl rfl)
theorem dL_law_585 : decode cL_law 585 = .ok (.invokevirtual 166, 3) := dk_182 0 166 (dk_at dksL_law_18 20 rfl rfl)
theorem dL_law_588 : decode cL_law 588 = .ok (.istore 7, 2) := dk_54 7 (dk_at dksL_law_19 0 rfl rfl)
theorem dL_law_590 : decode cL_law 590 = .ok (.aload_n 2, 1) := dk_44 (dk_at dksL_law_19 2 rfl rfl)
theorem dL_law_591 : decode cL_law 591 = .ok (.invokevirtual 140, 3) := dk_182 0 140 (dk_at dksL_law_19 3 rfl rfl)
theorem dL_law_594 : decode cL_law 594 = .ok (.iload 6, 2) := dk_21 6 (dk_at dksL_law_19 6 rfl rfl)
theorem dL_law_596 : decode cL_law 596 = .ok (.if_icmp .eq 5, 3) := dk_159 0 5 (dk_at dksL_law_19 8 rfl rfl)
theorem dL_law_599 : decode cL_law 599 = .ok (.iconst 0, 1) := dk_3 (dk_at dksL_law_19 11 rfl rfl)
theorem dL_law_600 : decode cL_law 600 = .ok (.ireturn, 1) := dk_172 (dk_at dksL_law_19 12 rfl rfl)
theorem dL_law_601 : decode cL_law 601 = .ok (.iload 6, 2) := dk_21 6 (dk_at dksL_law_19 13 rfl rfl)
theorem dL_law_603 : decode cL_law 603 = .ok (.ifCond .ne 22, 3) := dk_154 0 22 (dk_at dksL_law_19 15 rfl rfl)
theorem dL_law_606 : decode cL_law 606 = .ok (.aload_n 3, 1) := dk_45 (dk_at dksL_law_19 18 rfl rfl)
theorem dL_law_607 : decode cL_law 607 = .ok (.iconst 0, 1) := dk_3 (dk_at dksL_law_19 19 rfl rfl)
theorem dL_law_608 : decode cL_law 608 = .ok (.laload, 1) := dk_47 (dk_at dksL_law_19 20 rfl rfl)
theorem dL_law_609 : decode cL_law 609 = .ok (.iload 7, 2) := dk_21 7 (dk_at dksL_law_19 21 rfl rfl)
theorem dL_law_611 : decode cL_law 611 = .ok (.ifCond .eq 7, 3) := dk_153 0 7 (dk_at dksL_law_20 0 rfl rfl)
theorem dL_law_614 : decode cL_law 614 = .ok (.lconst 1, 1) := dk_10 (dk_at dksL_law_20 3 rfl rfl)
theorem dL_law_615 : decode cL_law 615 = .ok (.goto 4, 3) := dk_167 0 4 (dk_at dksL_law_20 4 rfl rfl)
theorem dL_law_618 : decode cL_law 618 = .ok (.lconst 0, 1) := dk_9 (dk_at dksL_law_20 7 rfl rfl)
theorem dL_law_619 : decode cL_law 619 = .ok (.lcmp, 1) := dk_148 (dk_at dksL_law_20 8 rfl rfl)
theorem dL_law_620 : decode cL_law 620 = .ok (.ifCond .eq 5, 3) := dk_153 0 5 (dk_at dksL_law_20 9 rfl rfl)
theorem dL_law_623 : decode cL_law 623 = .ok (.iconst 0, 1) := dk_3 (dk_at dksL_law_20 12 rfl rfl)
theorem dL_law_624 : decode cL_law 624 = .ok (.ireturn, 1) := dk_172 (dk_at dksL_law_20 13 rfl rfl)
theorem dL_law_625 : decode cL_law 625 = .ok (.goto 1700, 3) := dk_167 6 164 (dk_at dksL_law_20 14 rfl rfl)
theorem dL_law_628 : decode cL_law 628 = .ok (.aload_n 1, 1) := dk_43 (dk_at dksL_law_20 17 rfl rfl)
theorem dL_law_629 : decode cL_law 629 = .ok (.aload_n 0, 1) := dk_42 (dk_at dksL_law_20 18 rfl rfl)
theorem dL_law_630 : decode cL_law 630 = .ok (.iload 5, 2) := dk_21 5 (dk_at dksL_law_20 19 rfl rfl)
theorem dL_law_632 : decode cL_law 632 = .ok (.iconst 1, 1) := dk_4 (dk_at dksL_law_20 21 rfl rfl)
theorem dL_law_633 : decode cL_law 633 = .ok (.iadd, 1) := dk_96 (dk_at dksL_law_20 22 rfl rfl)
theorem dL_law_634 : decode cL_law 634 = .ok (.iaload, 1) := dk_46 (dk_at dksL_law_20 23 rfl rfl)
theorem dL_law_635 : decode cL_law 635 = .ok (.aload_n 0, 1) := dk_42 (dk_at dksL_law_21 0 rfl rfl)
theorem dL_law_636 : decode cL_law 636 = .ok (.iload 5, 2) := dk_21 5 (dk_at dksL_law_21 1 rfl rfl)
theorem dL_law_638 : decode cL_law 638 = .ok (.iconst 2, 1) := dk_5 (dk_at dksL_law_21 3 rfl rfl)
theorem dL_law_639 : decode cL_law 639 = .ok (.iadd, 1) := dk_96 (dk_at dksL_law_21 4 rfl rfl)
theorem dL_law_640 : decode cL_law 640 = .ok (.iaload, 1) := dk_46 (dk_at dksL_law_21 5 rfl rfl)
theorem dL_law_641 : decode cL_law 641 = .ok (.aload_n 3, 1) := dk_45 (dk_at dksL_law_21 6 rfl rfl)
theorem dL_law_642 : decode cL_law 642 = .ok (.invokestatic 167, 3) := dk_184 0 167 (dk_at dksL_law_21 7 rfl rfl)
theorem dL_law_645 : decode cL_law 645 = .ok (.istore 6, 2) := dk_54 6 (dk_at dksL_law_21 10 rfl rfl)
theorem dL_law_647 : decode cL_law 647 = .ok (.aload_n 2, 1) := dk_44 (dk_at dksL_law_21 12 rfl rfl)
theorem dL_law_648 : decode cL_law 648 = .ok (.aload_n 0, 1) := dk_42 (dk_at dksL_law_21 13 rfl rfl)
theorem dL_law_649 : decode cL_law 649 = .ok (.iload 5, 2) := dk_21 5 (dk_at dksL_law_21 14 rfl rfl)
theorem dL_law_651 : decode cL_law 651 = .ok (.iconst 1, 1) := dk_4 (dk_at dksL_law_21 16 rfl rfl)
theorem dL_law_652 : decode cL_law 652 = .ok (.iadd, 1) := dk_96 (dk_at dksL_law_21 17 rfl rfl)
theorem dL_law_653 : decode cL_law 653 = .ok (.iaload, 1) := dk_46 (dk_at dksL_law_21 18 rfl rfl)
theorem dL_law_654 : decode cL_law 654 = .ok (.aload_n 0, 1) := dk_42 (dk_at dksL_law_21 19 rfl rfl)
theorem dL_law_655 : decode cL_law 655 = .ok (.iload 5, 2) := dk_21 5 (dk_at dksL_law_21 20 rfl rfl)
theorem dL_law_657 : decode cL_law 657 = .ok (.iconst 2, 1) := dk_5 (dk_at dksL_law_21 22 rfl rfl)
theorem dL_law_658 : decode cL_law 658 = .ok (.iadd, 1) := dk_96 (dk_at dksL_law_21 23 rfl rfl)
theorem dL_law_659 : decode cL_law 659 = .ok (.iaload, 1) := dk_46 (dk_at dksL_law_22 0 rfl rfl)
theorem dL_law_660 : decode cL_law 660 = .ok (.invokevirtual 169, 3) := dk_182 0 169 (dk_at dksL_law_22 1 rfl rfl)
theorem dL_law_663 : decode cL_law 663 = .ok (.istore 7, 2) := dk_54 7 (dk_at dksL_law_22 4 rfl rfl)
theorem dL_law_665 : decode cL_law 665 = .ok (.aload_n 2, 1) := dk_44 (dk_at dksL_law_22 6 rfl rfl)
theorem dL_law_666 : decode cL_law 666 = .ok (.invokevirtual 140, 3) := dk_182 0 140 (dk_at dksL_law_22 7 rfl rfl)
theorem dL_law_669 : decode cL_law 669 = .ok (.iload 6, 2) := dk_21 6 (dk_at dksL_law_22 10 rfl rfl)
theorem dL_law_671 : decode cL_law 671 = .ok (.if_icmp .eq 5, 3) := dk_159 0 5 (dk_at dksL_law_22 12 rfl rfl)
theorem dL_law_674 : decode cL_law 674 = .ok (.iconst 0, 1) := dk_3 (dk_at dksL_law_22 15 rfl rfl)
theorem dL_law_675 : decode cL_law 675 = .ok (.ireturn, 1) := dk_172 (dk_at dksL_law_22 16 rfl rfl)
theorem dL_law_676 : decode cL_law 676 = .ok (.iload 6, 2) := dk_21 6 (dk_at dksL_law_22 17 rfl rfl)
theorem dL_law_678 : decode cL_law 678 = .ok (.ifCond .ne 15, 3) := dk_154 0 15 (dk_at dksL_law_22 19 rfl rfl)
theorem dL_law_681 : decode cL_law 681 = .ok (.aload_n 3, 1) := dk_45 (dk_at dksL_law_22 22 rfl rfl)
theorem dL_law_682 : decode cL_law 682 = .ok (.iconst 0, 1) := dk_3 (dk_at dksL_law_22 23 rfl rfl)
theorem dL_law_683 : decode cL_law 683 = .ok (.laload, 1) := dk_47 (dk_at dksL_law_23 0 rfl rfl)
theorem dL_law_684 : decode cL_law 684 = .ok (.iload 7, 2) := dk_21 7 (dk_at dksL_law_23 1 rfl rfl)
theorem dL_law_686 : decode cL_law 686 = .ok (.i2l, 1) := dk_133 (dk_at dksL_law_23 3 rfl rfl)
theorem dL_law_687 : decode cL_law 687 = .ok (.lcmp, 1) := dk_148 (dk_at dksL_law_23 4 rfl rfl)
theorem dL_law_688 : decode cL_law 688 = .ok (.ifCond .eq 5, 3) := dk_153 0 5 (dk_at dksL_law_23 5 rfl rfl)
theorem dL_law_691 : decode cL_law 691 = .ok (.iconst 0, 1) := dk_3 (dk_at dksL_law_23 8 rfl rfl)
theorem dL_law_692 : decode cL_law 692 = .ok (.ireturn, 1) := dk_172 (dk_at dksL_law_23 9 rfl rfl)
theorem dL_law_693 : decode cL_law 693 = .ok (.goto 1632, 3) := dk_167 6 96 (dk_at dksL_law_23 10 rfl rfl)
theorem dL_law_696 : decode cL_law 696 = .ok (.aload_n 1, 1) := dk_43 (dk_at dksL_law_23 13 rfl rfl)
theorem dL_law_697 : decode cL_law 697 = .ok (.aload_n 0, 1) := dk_42 (dk_at dksL_law_23 14 rfl rfl)
theorem dL_law_698 : decode cL_law 698 = .ok (.iload 5, 2) := dk_21 5 (dk_at dksL_law_23 15 rfl rfl)
theorem dL_law_700 : decode cL_law 700 = .ok (.iconst 1, 1) := dk_4 (dk_at dksL_law_23 17 rfl rfl)
theorem dL_law_701 : decode cL_law 701 = .ok (.iadd, 1) := dk_96 (dk_at dksL_law_23 18 rfl rfl)
theorem dL_law_702 : decode cL_law 702 = .ok (.iaload, 1) := dk_46 (dk_at dksL_law_23 19 rfl rfl)
theorem dL_law_703 : decode cL_law 703 = .ok (.aload_n 0, 1) := dk_42 (dk_at dksL_law_23 20 rfl rfl)
theorem dL_law_704 : decode cL_law 704 = .ok (.iload 5, 2) := dk_21 5 (dk_at dksL_law_23 21 rfl rfl)
theorem dL_law_706 : decode cL_law 706 = .ok (.iconst 2, 1) := dk_5 (dk_at dksL_law_23 23 rfl rfl)
theorem dL_law_707 : decode cL_law 707 = .ok (.iadd, 1) := dk_96 (dk_at dksL_law_24 0 rfl rfl)
theorem dL_law_708 : decode cL_law 708 = .ok (.iaload, 1) := dk_46 (dk_at dksL_law_24 1 rfl rfl)
theorem dL_law_709 : decode cL_law 709 = .ok (.aload_n 3, 1) := dk_45 (dk_at dksL_law_24 2 rfl rfl)
theorem dL_law_710 : decode cL_law 710 = .ok (.invokestatic 170, 3) := dk_184 0 170 (dk_at dksL_law_24 3 rfl rfl)
theorem dL_law_713 : decode cL_law 713 = .ok (.istore 6, 2) := dk_54 6 (dk_at dksL_law_24 6 rfl rfl)
theorem dL_law_715 : decode cL_law 715 = .ok (.aload_n 2, 1) := dk_44 (dk_at dksL_law_24 8 rfl rfl)
theorem dL_law_716 : decode cL_law 716 = .ok (.aload_n 0, 1) := dk_42 (dk_at dksL_law_24 9 rfl rfl)
theorem dL_law_717 : decode cL_law 717 = .ok (.iload 5, 2) := dk_21 5 (dk_at dksL_law_24 10 rfl rfl)
theorem dL_law_719 : decode cL_law 719 = .ok (.iconst 1, 1) := dk_4 (dk_at dksL_law_24 12 rfl rfl)
theorem dL_law_720 : decode cL_law 720 = .ok (.iadd, 1) := dk_96 (dk_at dksL_law_24 13 rfl rfl)
theorem dL_law_721 : decode cL_law 721 = .ok (.iaload, 1) := dk_46 (dk_at dksL_law_24 14 rfl rfl)
theorem dL_law_722 : decode cL_law 722 = .ok (.aload_n 0, 1) := dk_42 (dk_at dksL_law_24 15 rfl rfl)
theorem dL_law_723 : decode cL_law 723 = .ok (.iload 5, 2) := dk_21 5 (dk_at dksL_law_24 16 rfl rfl)
theorem dL_law_725 : decode cL_law 725 = .ok (.iconst 2, 1) := dk_5 (dk_at dksL_law_24 18 rfl rfl)
theorem dL_law_726 : decode cL_law 726 = .ok (.iadd, 1) := dk_96 (dk_at dksL_law_24 19 rfl rfl)
theorem dL_law_727 : decode cL_law 727 = .ok (.iaload, 1) := dk_46 (dk_at dksL_law_24 20 rfl rfl)
theorem dL_law_728 : decode cL_law 728 = .ok (.invokevirtual 172, 3) := dk_182 0 172 (dk_at dksL_law_24 21 rfl rfl)
theorem dL_law_731 : decode cL_law 731 = .ok (.istore 7, 2) := dk_54 7 (dk_at dksL_law_25 0 rfl rfl)
theorem dL_law_733 : decode cL_law 733 = .ok (.aload_n 2, 1) := dk_44 (dk_at dksL_law_25 2 rfl rfl)
theorem dL_law_734 : decode cL_law 734 = .ok (.invokevirtual 140, 3) := dk_182 0 140 (dk_at dksL_law_25 3 rfl rfl)
theorem dL_law_737 : decode cL_law 737 = .ok (.iload 6, 2) := dk_21 6 (dk_at dksL_law_25 6 rfl rfl)
theorem dL_law_739 : decode cL_law 739 = .ok (.if_icmp .eq 5, 3) := dk_159 0 5 (dk_at dksL_law_25 8 rfl rfl)
theorem dL_law_742 : decode cL_law 742 = .ok (.iconst 0, 1) := dk_3 (dk_at dksL_law_25 11 rfl rfl)
theorem dL_law_743 : decode cL_law 743 = .ok (.ireturn, 1) := dk_172 (dk_at dksL_law_25 12 rfl rfl)
theorem dL_law_744 : decode cL_law 744 = .ok (.iload 6, 2) := dk_21 6 (dk_at dksL_law_25 13 rfl rfl)
theorem dL_law_746 : decode cL_law 746 = .ok (.ifCond .ne 15, 3) := dk_154 0 15 (dk_at dksL_law_25 15 rfl rfl)
theorem dL_law_749 : decode cL_law 749 = .ok (.aload_n 3, 1) := dk_45 (dk_at dksL_law_25 18 rfl rfl)
theorem dL_law_750 : decode cL_law 750 = .ok (.iconst 0, 1) := dk_3 (dk_at dksL_law_25 19 rfl rfl)
theorem dL_law_751 : decode cL_law 751 = .ok (.laload, 1) := dk_47 (dk_at dksL_law_25 20 rfl rfl)
theorem dL_law_752 : decode cL_law 752 = .ok (.iload 7, 2) := dk_21 7 (dk_at dksL_law_25 21 rfl rfl)
theorem dL_law_754 : decode cL_law 754 = .ok (.i2l, 1) := dk_133 (dk_at dksL_law_25 23 rfl rfl)
theorem dL_law_755 : decode cL_law 755 = .ok (.lcmp, 1) := dk_148 (dk_at dksL_law_26 0 rfl rfl)
theorem dL_law_756 : decode cL_law 756 = .ok (.ifCond .eq 5, 3) := dk_153 0 5 (dk_at dksL_law_26 1 rfl rfl)
theorem dL_law_759 : decode cL_law 759 = .ok (.iconst 0, 1) := dk_3 (dk_at dksL_law_26 4 rfl rfl)
theorem dL_law_760 : decode cL_law 760 = .ok (.ireturn, 1) := dk_172 (dk_at dksL_law_26 5 rfl rfl)
theorem dL_law_761 : decode cL_law 761 = .ok (.goto 1564, 3) := dk_167 6 28 (dk_at dksL_law_26 6 rfl rfl)
theorem dL_law_764 : decode cL_law 764 = .ok (.aload_n 1, 1) := dk_43 (dk_at dksL_law_26 9 rfl rfl)
theorem dL_law_765 : decode cL_law 765 = .ok (.aload_n 0, 1) := dk_42 (dk_at dksL_law_26 10 rfl rfl)
theorem dL_law_766 : decode cL_law 766 = .ok (.iload 5, 2) := dk_21 5 (dk_at dksL_law_26 11 rfl rfl)
theorem dL_law_768 : decode cL_law 768 = .ok (.iconst 1, 1) := dk_4 (dk_at dksL_law_26 13 rfl rfl)
theorem dL_law_769 : decode cL_law 769 = .ok (.iadd, 1) := dk_96 (dk_at dksL_law_26 14 rfl rfl)
theorem dL_law_770 : decode cL_law 770 = .ok (.iaload, 1) := dk_46 (dk_at dksL_law_26 15 rfl rfl)
theorem dL_law_771 : decode cL_law 771 = .ok (.aload_n 3, 1) := dk_45 (dk_at dksL_law_26 16 rfl rfl)
theorem dL_law_772 : decode cL_law 772 = .ok (.invokestatic 173, 3) := dk_184 0 173 (dk_at dksL_law_26 17 rfl rfl)
theorem dL_law_775 : decode cL_law 775 = .ok (.istore 6, 2) := dk_54 6 (dk_at dksL_law_26 20 rfl rfl)
theorem dL_law_777 : decode cL_law 777 = .ok (.aload_n 2, 1) := dk_44 (dk_at dksL_law_26 22 rfl rfl)
theorem dL_law_778 : decode cL_law 778 = .ok (.aload_n 0, 1) := dk_42 (dk_at dksL_law_26 23 rfl rfl)
theorem dL_law_779 : decode cL_law 779 = .ok (.iload 5, 2) := dk_21 5 (dk_at dksL_law_27 0 rfl rfl)
theorem dL_law_781 : decode cL_law 781 = .ok (.iconst 1, 1) := dk_4 (dk_at dksL_law_27 2 rfl rfl)
theorem dL_law_782 : decode cL_law 782 = .ok (.iadd, 1) := dk_96 (dk_at dksL_law_27 3 rfl rfl)
theorem dL_law_783 : decode cL_law 783 = .ok (.iaload, 1) := dk_46 (dk_at dksL_law_27 4 rfl rfl)
theorem dL_law_784 : decode cL_law 784 = .ok (.invokevirtual 175, 3) := dk_182 0 175 (dk_at dksL_law_27 5 rfl rfl)
theorem dL_law_787 : decode cL_law 787 = .ok (.istore 7, 2) := dk_54 7 (dk_at dksL_law_27 8 rfl rfl)
theorem dL_law_789 : decode cL_law 789 = .ok (.aload_n 2, 1) := dk_44 (dk_at dksL_law_27 10 rfl rfl)
theorem dL_law_790 : decode cL_law 790 = .ok (.invokevirtual 140, 3) := dk_182 0 140 (dk_at dksL_law_27 11 rfl rfl)
theorem dL_law_793 : decode cL_law 793 = .ok (.iload 6, 2) := dk_21 6 (dk_at dksL_law_27 14 rfl rfl)
theorem dL_law_795 : decode cL_law 795 = .ok (.if_icmp .eq 5, 3) := dk_159 0 5 (dk_at dksL_law_27 16 rfl rfl)
theorem dL_law_798 : decode cL_law 798 = .ok (.iconst 0, 1) := dk_3 (dk_at dksL_law_27 19 rfl rfl)
theorem dL_law_799 : decode cL_law 799 = .ok (.ireturn, 1) := dk_172 (dk_at dksL_law_27 20 rfl rfl)
theorem dL_law_800 : decode cL_law 800 = .ok (.iload 6, 2) := dk_21 6 (dk_at dksL_law_27 21 rfl rfl)
theorem dL_law_802 : decode cL_law 802 = .ok (.ifCond .ne 15, 3) := dk_154 0 15 (dk_at dksL_law_28 0 rfl rfl)
theorem dL_law_805 : decode cL_law 805 = .ok (.aload_n 3, 1) := dk_45 (dk_at dksL_law_28 3 rfl rfl)
theorem dL_law_806 : decode cL_law 806 = .ok (.iconst 0, 1) := dk_3 (dk_at dksL_law_28 4 rfl rfl)
theorem dL_law_807 : decode cL_law 807 = .ok (.laload, 1) := dk_47 (dk_at dksL_law_28 5 rfl rfl)
theorem dL_law_808 : decode cL_law 808 = .ok (.iload 7, 2) := dk_21 7 (dk_at dksL_law_28 6 rfl rfl)
theorem dL_law_810 : decode cL_law 810 = .ok (.i2l, 1) := dk_133 (dk_at dksL_law_28 8 rfl rfl)
theorem dL_law_811 : decode cL_law 811 = .ok (.lcmp, 1) := dk_148 (dk_at dksL_law_28 9 rfl rfl)
theorem dL_law_812 : decode cL_law 812 = .ok (.ifCond .eq 5, 3) := dk_153 0 5 (dk_at dksL_law_28 10 rfl rfl)
theorem dL_law_815 : decode cL_law 815 = .ok (.iconst 0, 1) := dk_3 (dk_at dksL_law_28 13 rfl rfl)
theorem dL_law_816 : decode cL_law 816 = .ok (.ireturn, 1) := dk_172 (dk_at dksL_law_28 14 rfl rfl)
theorem dL_law_817 : decode cL_law 817 = .ok (.goto 1508, 3) := dk_167 5 228 (dk_at dksL_law_28 15 rfl rfl)
theorem dL_law_820 : decode cL_law 820 = .ok (.aload_n 1, 1) := dk_43 (dk_at dksL_law_28 18 rfl rfl)
theorem dL_law_821 : decode cL_law 821 = .ok (.invokevirtual 176, 3) := dk_182 0 176 (dk_at dksL_law_28 19 rfl rfl)
theorem dL_law_824 : decode cL_law 824 = .ok (.aload_n 2, 1) := dk_44 (dk_at dksL_law_28 22 rfl rfl)
theorem dL_law_825 : decode cL_law 825 = .ok (.invokevirtual 179, 3) := dk_182 0 179 (dk_at dksL_law_29 0 rfl rfl)
theorem dL_law_828 : decode cL_law 828 = .ok (.if_icmp .eq 1497, 3) := dk_159 5 217 (dk_at dksL_law_29 3 rfl rfl)
theorem dL_law_831 : decode cL_law 831 = .ok (.iconst 0, 1) := dk_3 (dk_at dksL_law_29 6 rfl rfl)
theorem dL_law_832 : decode cL_law 832 = .ok (.ireturn, 1) := dk_172 (dk_at dksL_law_29 7 rfl rfl)
theorem dL_law_833 : decode cL_law 833 = .ok (.aload_n 1, 1) := dk_43 (dk_at dksL_law_29 8 rfl rfl)
theorem dL_law_834 : decode cL_law 834 = .ok (.aload_n 0, 1) := dk_42 (dk_at dksL_law_29 9 rfl rfl)
theorem dL_law_835 : decode cL_law 835 = .ok (.iload 5, 2) := dk_21 5 (dk_at dksL_law_29 10 rfl rfl)
theorem dL_law_837 : decode cL_law 837 = .ok (.iconst 1, 1) := dk_4 (dk_at dksL_law_29 12 rfl rfl)
theorem dL_law_838 : decode cL_law 838 = .ok (.iadd, 1) := dk_96 (dk_at dksL_law_29 13 rfl rfl)
theorem dL_law_839 : decode cL_law 839 = .ok (.iaload, 1) := dk_46 (dk_at dksL_law_29 14 rfl rfl)
theorem dL_law_840 : decode cL_law 840 = .ok (.aload_n 3, 1) := dk_45 (dk_at dksL_law_29 15 rfl rfl)
theorem dL_law_841 : decode cL_law 841 = .ok (.invokestatic 180, 3) := dk_184 0 180 (dk_at dksL_law_29 16 rfl rfl)
theorem dL_law_844 : decode cL_law 844 = .ok (.istore 6, 2) := dk_54 6 (dk_at dksL_law_29 19 rfl rfl)
theorem dL_law_846 : decode cL_law 846 = .ok (.aload_n 2, 1) := dk_44 (dk_at dksL_law_29 21 rfl rfl)
theorem dL_law_847 : decode cL_law 847 = .ok (.aload_n 0, 1) := dk_42 (dk_at dksL_law_29 22 rfl rfl)
theorem dL_law_848 : decode cL_law 848 = .ok (.iload 5, 2) := dk_21 5 (dk_at dksL_law_30 0 rfl rfl)
theorem dL_law_850 : decode cL_law 850 = .ok (.iconst 1, 1) := dk_4 (dk_at dksL_law_30 2 rfl rfl)
theorem dL_law_851 : decode cL_law 851 = .ok (.iadd, 1) := dk_96 (dk_at dksL_law_30 3 rfl rfl)
theorem dL_law_852 : decode cL_law 852 = .ok (.iaload, 1) := dk_46 (dk_at dksL_law_30 4 rfl rfl)
theorem dL_law_853 : decode cL_law 853 = .ok (.invokevirtual 182, 3) := dk_182 0 182 (dk_at dksL_law_30 5 rfl rfl)
theorem dL_law_856 : decode cL_law 856 = .ok (.istore 7, 2) := dk_54 7 (dk_at dksL_law_30 8 rfl rfl)
theorem dL_law_858 : decode cL_law 858 = .ok (.aload_n 2, 1) := dk_44 (dk_at dksL_law_30 10 rfl rfl)
theorem dL_law_859 : decode cL_law 859 = .ok (.invokevirtual 140, 3) := dk_182 0 140 (dk_at dksL_law_30 11 rfl rfl)
theorem dL_law_862 : decode cL_law 862 = .ok (.iload 6, 2) := dk_21 6 (dk_at dksL_law_30 14 rfl rfl)
theorem dL_law_864 : decode cL_law 864 = .ok (.if_icmp .eq 5, 3) := dk_159 0 5 (dk_at dksL_law_30 16 rfl rfl)
theorem dL_law_867 : decode cL_law 867 = .ok (.iconst 0, 1) := dk_3 (dk_at dksL_law_30 19 rfl rfl)
theorem dL_law_868 : decode cL_law 868 = .ok (.ireturn, 1) := dk_172 (dk_at dksL_law_30 20 rfl rfl)
theorem dL_law_869 : decode cL_law 869 = .ok (.iload 6, 2) := dk_21 6 (dk_at dksL_law_30 21 rfl rfl)
theorem dL_law_871 : decode cL_law 871 = .ok (.ifCond .ne 15, 3) := dk_154 0 15 (dk_at dksL_law_31 0 rfl rfl)
theorem dL_law_874 : decode cL_law 874 = .ok (.aload_n 3, 1) := dk_45 (dk_at dksL_law_31 3 rfl rfl)
theorem dL_law_875 : decode cL_law 875 = .ok (.iconst 0, 1) := dk_3 (dk_at dksL_law_31 4 rfl rfl)
theorem dL_law_876 : decode cL_law 876 = .ok (.laload, 1) := dk_47 (dk_at dksL_law_31 5 rfl rfl)
theorem dL_law_877 : decode cL_law 877 = .ok (.iload 7, 2) := dk_21 7 (dk_at dksL_law_31 6 rfl rfl)
theorem dL_law_879 : decode cL_law 879 = .ok (.i2l, 1) := dk_133 (dk_at dksL_law_31 8 rfl rfl)
theorem dL_law_880 : decode cL_law 880 = .ok (.lcmp, 1) := dk_148 (dk_at dksL_law_31 9 rfl rfl)
theorem dL_law_881 : decode cL_law 881 = .ok (.ifCond .eq 5, 3) := dk_153 0 5 (dk_at dksL_law_31 10 rfl rfl)
theorem dL_law_884 : decode cL_law 884 = .ok (.iconst 0, 1) := dk_3 (dk_at dksL_law_31 13 rfl rfl)
theorem dL_law_885 : decode cL_law 885 = .ok (.ireturn, 1) := dk_172 (dk_at dksL_law_31 14 rfl rfl)
theorem dL_law_886 : decode cL_law 886 = .ok (.goto 1439, 3) := dk_167 5 159 (dk_at dksL_law_31 15 rfl rfl)
theorem dL_law_889 : decode cL_law 889 = .ok (.aload_n 1, 1) := dk_43 (dk_at dksL_law_31 18 rfl rfl)
theorem dL_law_890 : decode cL_law 890 = .ok (.aload_n 0, 1) := dk_42 (dk_at dksL_law_31 19 rfl rfl)
theorem dL_law_891 : decode cL_law 891 = .ok (.iload 5, 2) := dk_21 5 (dk_at dksL_law_31 20 rfl rfl)
theorem dL_law_893 : decode cL_law 893 = .ok (.iconst 1, 1) := dk_4 (dk_at dksL_law_31 22 rfl rfl)
theorem dL_law_894 : decode cL_law 894 = .ok (.iadd, 1) := dk_96 (dk_at dksL_law_31 23 rfl rfl)
theorem dL_law_895 : decode cL_law 895 = .ok (.iaload, 1) := dk_46 (dk_at dksL_law_32 0 rfl rfl)
theorem dL_law_896 : decode cL_law 896 = .ok (.aload_n 3, 1) := dk_45 (dk_at dksL_law_32 1 rfl rfl)
theorem dL_law_897 : decode cL_law 897 = .ok (.invokestatic 183, 3) := dk_184 0 183 (dk_at dksL_law_32 2 rfl rfl)
theorem dL_law_900 : decode cL_law 900 = .ok (.istore 6, 2) := dk_54 6 (dk_at dksL_law_32 5 rfl rfl)
theorem dL_law_902 : decode cL_law 902 = .ok (.aload_n 2, 1) := dk_44 (dk_at dksL_law_32 7 rfl rfl)
theorem dL_law_903 : decode cL_law 903 = .ok (.aload_n 0, 1) := dk_42 (dk_at dksL_law_32 8 rfl rfl)
theorem dL_law_904 : decode cL_law 904 = .ok (.iload 5, 2) := dk_21 5 (dk_at dksL_law_32 9 rfl rfl)
theorem dL_law_906 : decode cL_law 906 = .ok (.iconst 1, 1) := dk_4 (dk_at dksL_law_32 11 rfl rfl)
theorem dL_law_907 : decode cL_law 907 = .ok (.iadd, 1) := dk_96 (dk_at dksL_law_32 12 rfl rfl)
theorem dL_law_908 : decode cL_law 908 = .ok (.iaload, 1) := dk_46 (dk_at dksL_law_32 13 rfl rfl)
theorem dL_law_909 : decode cL_law 909 = .ok (.invokevirtual 185, 3) := dk_182 0 185 (dk_at dksL_law_32 14 rfl rfl)
theorem dL_law_912 : decode cL_law 912 = .ok (.istore 7, 2) := dk_54 7 (dk_at dksL_law_32 17 rfl rfl)
theorem dL_law_914 : decode cL_law 914 = .ok (.aload_n 2, 1) := dk_44 (dk_at dksL_law_32 19 rfl rfl)
theorem dL_law_915 : decode cL_law 915 = .ok (.invokevirtual 140, 3) := dk_182 0 140 (dk_at dksL_law_32 20 rfl rfl)
theorem dL_law_918 : decode cL_law 918 = .ok (.iload 6, 2) := dk_21 6 (dk_at dksL_law_33 0 rfl rfl)
theorem dL_law_920 : decode cL_law 920 = .ok (.if_icmp .eq 5, 3) := dk_159 0 5 (dk_at dksL_law_33 2 rfl rfl)
theorem dL_law_923 : decode cL_law 923 = .ok (.iconst 0, 1) := dk_3 (dk_at dksL_law_33 5 rfl rfl)
theorem dL_law_924 : decode cL_law 924 = .ok (.ireturn, 1) := dk_172 (dk_at dksL_law_33 6 rfl rfl)
theorem dL_law_925 : decode cL_law 925 = .ok (.iload 6, 2) := dk_21 6 (dk_at dksL_law_33 7 rfl rfl)
theorem dL_law_927 : decode cL_law 927 = .ok (.ifCond .ne 15, 3) := dk_154 0 15 (dk_at dksL_law_33 9 rfl rfl)
theorem dL_law_930 : decode cL_law 930 = .ok (.aload_n 3, 1) := dk_45 (dk_at dksL_law_33 12 rfl rfl)
theorem dL_law_931 : decode cL_law 931 = .ok (.iconst 0, 1) := dk_3 (dk_at dksL_law_33 13 rfl rfl)
theorem dL_law_932 : decode cL_law 932 = .ok (.laload, 1) := dk_47 (dk_at dksL_law_33 14 rfl rfl)
theorem dL_law_933 : decode cL_law 933 = .ok (.iload 7, 2) := dk_21 7 (dk_at dksL_law_33 15 rfl rfl)
theorem dL_law_935 : decode cL_law 935 = .ok (.i2l, 1) := dk_133 (dk_at dksL_law_33 17 rfl rfl)
theorem dL_law_936 : decode cL_law 936 = .ok (.lcmp, 1) := dk_148 (dk_at dksL_law_33 18 rfl rfl)
theorem dL_law_937 : decode cL_law 937 = .ok (.ifCond .eq 5, 3) := dk_153 0 5 (dk_at dksL_law_33 19 rfl rfl)
theorem dL_law_940 : decode cL_law 940 = .ok (.iconst 0, 1) := dk_3 (dk_at dksL_law_33 22 rfl rfl)
theorem dL_law_941 : decode cL_law 941 = .ok (.ireturn, 1) := dk_172 (dk_at dksL_law_33 23 rfl rfl)
theorem dL_law_942 : decode cL_law 942 = .ok (.goto 1383, 3) := dk_167 5 103 (dk_at dksL_law_34 0 rfl rfl)
theorem dL_law_945 : decode cL_law 945 = .ok (.aload_n 1, 1) := dk_43 (dk_at dksL_law_34 3 rfl rfl)
theorem dL_law_946 : decode cL_law 946 = .ok (.aload_n 0, 1) := dk_42 (dk_at dksL_law_34 4 rfl rfl)
theorem dL_law_947 : decode cL_law 947 = .ok (.iload 5, 2) := dk_21 5 (dk_at dksL_law_34 5 rfl rfl)
theorem dL_law_949 : decode cL_law 949 = .ok (.iconst 1, 1) := dk_4 (dk_at dksL_law_34 7 rfl rfl)
theorem dL_law_950 : decode cL_law 950 = .ok (.iadd, 1) := dk_96 (dk_at dksL_law_34 8 rfl rfl)
theorem dL_law_951 : decode cL_law 951 = .ok (.iaload, 1) := dk_46 (dk_at dksL_law_34 9 rfl rfl)
theorem dL_law_952 : decode cL_law 952 = .ok (.aload_n 3, 1) := dk_45 (dk_at dksL_law_34 10 rfl rfl)
theorem dL_law_953 : decode cL_law 953 = .ok (.invokestatic 186, 3) := dk_184 0 186 (dk_at dksL_law_34 11 rfl rfl)
theorem dL_law_956 : decode cL_law 956 = .ok (.istore 6, 2) := dk_54 6 (dk_at dksL_law_34 14 rfl rfl)
theorem dL_law_958 : decode cL_law 958 = .ok (.aload_n 2, 1) := dk_44 (dk_at dksL_law_34 16 rfl rfl)
theorem dL_law_959 : decode cL_law 959 = .ok (.aload_n 0, 1) := dk_42 (dk_at dksL_law_34 17 rfl rfl)
theorem dL_law_960 : decode cL_law 960 = .ok (.iload 5, 2) := dk_21 5 (dk_at dksL_law_34 18 rfl rfl)
theorem dL_law_962 : decode cL_law 962 = .ok (.iconst 1, 1) := dk_4 (dk_at dksL_law_34 20 rfl rfl)
theorem dL_law_963 : decode cL_law 963 = .ok (.iadd, 1) := dk_96 (dk_at dksL_law_34 21 rfl rfl)
theorem dL_law_964 : decode cL_law 964 = .ok (.iaload, 1) := dk_46 (dk_at dksL_law_34 22 rfl rfl)
theorem dL_law_965 : decode cL_law 965 = .ok (.invokevirtual 188, 3) := dk_182 0 188 (dk_at dksL_law_35 0 rfl rfl)
theorem dL_law_968 : decode cL_law 968 = .ok (.istore 7, 2) := dk_54 7 (dk_at dksL_law_35 3 rfl rfl)
theorem dL_law_970 : decode cL_law 970 = .ok (.aload_n 2, 1) := dk_44 (dk_at dksL_law_35 5 rfl rfl)
theorem dL_law_971 : decode cL_law 971 = .ok (.invokevirtual 140, 3) := dk_182 0 140 (dk_at dksL_law_35 6 rfl rfl)
theorem dL_law_974 : decode cL_law 974 = .ok (.iload 6, 2) := dk_21 6 (dk_at dksL_law_35 9 rfl rfl)
theorem dL_law_976 : decode cL_law 976 = .ok (.if_icmp .eq 5, 3) := dk_159 0 5 (dk_at dksL_law_35 11 rfl rfl)
theorem dL_law_979 : decode cL_law 979 = .ok (.iconst 0, 1) := dk_3 (dk_at dksL_law_35 14 rfl rfl)
theorem dL_law_980 : decode cL_law 980 = .ok (.ireturn, 1) := dk_172 (dk_at dksL_law_35 15 rfl rfl)
theorem dL_law_981 : decode cL_law 981 = .ok (.iload 6, 2) := dk_21 6 (dk_at dksL_law_35 16 rfl rfl)
theorem dL_law_983 : decode cL_law 983 = .ok (.ifCond .ne 15, 3) := dk_154 0 15 (dk_at dksL_law_35 18 rfl rfl)
theorem dL_law_986 : decode cL_law 986 = .ok (.aload_n 3, 1) := dk_45 (dk_at dksL_law_35 21 rfl rfl)
theorem dL_law_987 : decode cL_law 987 = .ok (.iconst 0, 1) := dk_3 (dk_at dksL_law_35 22 rfl rfl)
theorem dL_law_988 : decode cL_law 988 = .ok (.laload, 1) := dk_47 (dk_at dksL_law_35 23 rfl rfl)
theorem dL_law_989 : decode cL_law 989 = .ok (.iload 7, 2) := dk_21 7 (dk_at dksL_law_36 0 rfl rfl)
theorem dL_law_991 : decode cL_law 991 = .ok (.i2l, 1) := dk_133 (dk_at dksL_law_36 2 rfl rfl)
theorem dL_law_992 : decode cL_law 992 = .ok (.lcmp, 1) := dk_148 (dk_at dksL_law_36 3 rfl rfl)
theorem dL_law_993 : decode cL_law 993 = .ok (.ifCond .eq 5, 3) := dk_153 0 5 (dk_at dksL_law_36 4 rfl rfl)
theorem dL_law_996 : decode cL_law 996 = .ok (.iconst 0, 1) := dk_3 (dk_at dksL_law_36 7 rfl rfl)
theorem dL_law_997 : decode cL_law 997 = .ok (.ireturn, 1) := dk_172 (dk_at dksL_law_36 8 rfl rfl)
theorem dL_law_998 : decode cL_law 998 = .ok (.goto 1327, 3) := dk_167 5 47 (dk_at dksL_law_36 9 rfl rfl)
theorem dL_law_1001 : decode cL_law 1001 = .ok (.aload_n 1, 1) := dk_43 (dk_at dksL_law_36 12 rfl rfl)
theorem dL_law_1002 : decode cL_law 1002 = .ok (.aload_n 0, 1) := dk_42 (dk_at dksL_law_36 13 rfl rfl)
theorem dL_law_1003 : decode cL_law 1003 = .ok (.iload 5, 2) := dk_21 5 (dk_at dksL_law_36 14 rfl rfl)
theorem dL_law_1005 : decode cL_law 1005 = .ok (.iconst 1, 1) := dk_4 (dk_at dksL_law_36 16 rfl rfl)
theorem dL_law_1006 : decode cL_law 1006 = .ok (.iadd, 1) := dk_96 (dk_at dksL_law_36 17 rfl rfl)
theorem dL_law_1007 : decode cL_law 1007 = .ok (.iaload, 1) := dk_46 (dk_at dksL_law_36 18 rfl rfl)
theorem dL_law_1008 : decode cL_law 1008 = .ok (.aload_n 3, 1) := dk_45 (dk_at dksL_law_36 19 rfl rfl)
theorem dL_law_1009 : decode cL_law 1009 = .ok (.invokestatic 189, 3) := dk_184 0 189 (dk_at dksL_law_36 20 rfl rfl)
theorem dL_law_1012 : decode cL_law 1012 = .ok (.istore 6, 2) := dk_54 6 (dk_at dksL_law_37 0 rfl rfl)
theorem dL_law_1014 : decode cL_law 1014 = .ok (.aload_n 2, 1) := dk_44 (dk_at dksL_law_37 2 rfl rfl)
theorem dL_law_1015 : decode cL_law 1015 = .ok (.aload_n 0, 1) := dk_42 (dk_at dksL_law_37 3 rfl rfl)
theorem dL_law_1016 : decode cL_law 1016 = .ok (.iload 5, 2) := dk_21 5 (dk_at dksL_law_37 4 rfl rfl)
theorem dL_law_1018 : decode cL_law 1018 = .ok (.iconst 1, 1) := dk_4 (dk_at dksL_law_37 6 rfl rfl)
theorem dL_law_1019 : decode cL_law 1019 = .ok (.iadd, 1) := dk_96 (dk_at dksL_law_37 7 rfl rfl)
theorem dL_law_1020 : decode cL_law 1020 = .ok (.iaload, 1) := dk_46 (dk_at dksL_law_37 8 rfl rfl)
theorem dL_law_1021 : decode cL_law 1021 = .ok (.invokevirtual 191, 3) := dk_182 0 191 (dk_at dksL_law_37 9 rfl rfl)
theorem dL_law_1024 : decode cL_law 1024 = .ok (.istore 7, 2) := dk_54 7 (dk_at dksL_law_37 12 rfl rfl)
theorem dL_law_1026 : decode cL_law 1026 = .ok (.aload_n 2, 1) := dk_44 (dk_at dksL_law_37 14 rfl rfl)
theorem dL_law_1027 : decode cL_law 1027 = .ok (.invokevirtual 140, 3) := dk_182 0 140 (dk_at dksL_law_37 15 rfl rfl)
theorem dL_law_1030 : decode cL_law 1030 = .ok (.iload 6, 2) := dk_21 6 (dk_at dksL_law_37 18 rfl rfl)
theorem dL_law_1032 : decode cL_law 1032 = .ok (.if_icmp .eq 5, 3) := dk_159 0 5 (dk_at dksL_law_37 20 rfl rfl)
theorem dL_law_1035 : decode cL_law 1035 = .ok (.iconst 0, 1) := dk_3 (dk_at dksL_law_37 23 rfl rfl)
theorem dL_law_1036 : decode cL_law 1036 = .ok (.ireturn, 1) := dk_172 (dk_at dksL_law_38 0 rfl rfl)
theorem dL_law_1037 : decode cL_law 1037 = .ok (.iload 6, 2) := dk_21 6 (dk_at dksL_law_38 1 rfl rfl)
theorem dL_law_1039 : decode cL_law 1039 = .ok (.ifCond .ne 15, 3) := dk_154 0 15 (dk_at dksL_law_38 3 rfl rfl)
theorem dL_law_1042 : decode cL_law 1042 = .ok (.aload_n 3, 1) := dk_45 (dk_at dksL_law_38 6 rfl rfl)
theorem dL_law_1043 : decode cL_law 1043 = .ok (.iconst 0, 1) := dk_3 (dk_at dksL_law_38 7 rfl rfl)
theorem dL_law_1044 : decode cL_law 1044 = .ok (.laload, 1) := dk_47 (dk_at dksL_law_38 8 rfl rfl)
theorem dL_law_1045 : decode cL_law 1045 = .ok (.iload 7, 2) := dk_21 7 (dk_at dksL_law_38 9 rfl rfl)
theorem dL_law_1047 : decode cL_law 1047 = .ok (.i2l, 1) := dk_133 (dk_at dksL_law_38 11 rfl rfl)
theorem dL_law_1048 : decode cL_law 1048 = .ok (.lcmp, 1) := dk_148 (dk_at dksL_law_38 12 rfl rfl)
theorem dL_law_1049 : decode cL_law 1049 = .ok (.ifCond .eq 5, 3) := dk_153 0 5 (dk_at dksL_law_38 13 rfl rfl)
theorem dL_law_1052 : decode cL_law 1052 = .ok (.iconst 0, 1) := dk_3 (dk_at dksL_law_38 16 rfl rfl)
theorem dL_law_1053 : decode cL_law 1053 = .ok (.ireturn, 1) := dk_172 (dk_at dksL_law_38 17 rfl rfl)
theorem dL_law_1054 : decode cL_law 1054 = .ok (.goto 1271, 3) := dk_167 4 247 (dk_at dksL_law_38 18 rfl rfl)
theorem dL_law_1057 : decode cL_law 1057 = .ok (.aload_n 1, 1) := dk_43 (dk_at dksL_law_38 21 rfl rfl)
theorem dL_law_1058 : decode cL_law 1058 = .ok (.aload_n 3, 1) := dk_45 (dk_at dksL_law_38 22 rfl rfl)
theorem dL_law_1059 : decode cL_law 1059 = .ok (.invokestatic 192, 3) := dk_184 0 192 (dk_at dksL_law_39 0 rfl rfl)
theorem dL_law_1062 : decode cL_law 1062 = .ok (.istore 6, 2) := dk_54 6 (dk_at dksL_law_39 3 rfl rfl)
theorem dL_law_1064 : decode cL_law 1064 = .ok (.aload_n 2, 1) := dk_44 (dk_at dksL_law_39 5 rfl rfl)
theorem dL_law_1065 : decode cL_law 1065 = .ok (.invokevirtual 194, 3) := dk_182 0 194 (dk_at dksL_law_39 6 rfl rfl)
theorem dL_law_1068 : decode cL_law 1068 = .ok (.istore 7, 2) := dk_54 7 (dk_at dksL_law_39 9 rfl rfl)
theorem dL_law_1070 : decode cL_law 1070 = .ok (.aload_n 2, 1) := dk_44 (dk_at dksL_law_39 11 rfl rfl)
theorem dL_law_1071 : decode cL_law 1071 = .ok (.invokevirtual 140, 3) := dk_182 0 140 (dk_at dksL_law_39 12 rfl rfl)
theorem dL_law_1074 : decode cL_law 1074 = .ok (.iload 6, 2) := dk_21 6 (dk_at dksL_law_39 15 rfl rfl)
theorem dL_law_1076 : decode cL_law 1076 = .ok (.if_icmp .eq 5, 3) := dk_159 0 5 (dk_at dksL_law_39 17 rfl rfl)
theorem dL_law_1079 : decode cL_law 1079 = .ok (.iconst 0, 1) := dk_3 (dk_at dksL_law_39 20 rfl rfl)
theorem dL_law_1080 : decode cL_law 1080 = .ok (.ireturn, 1) := dk_172 (dk_at dksL_law_39 21 rfl rfl)
theorem dL_law_1081 : decode cL_law 1081 = .ok (.iload 6, 2) := dk_21 6 (dk_at dksL_law_39 22 rfl rfl)
theorem dL_law_1083 : decode cL_law 1083 = .ok (.ifCond .ne 15, 3) := dk_154 0 15 (dk_at dksL_law_40 0 rfl rfl)
theorem dL_law_1086 : decode cL_law 1086 = .ok (.aload_n 3, 1) := dk_45 (dk_at dksL_law_40 3 rfl rfl)
theorem dL_law_1087 : decode cL_law 1087 = .ok (.iconst 0, 1) := dk_3 (dk_at dksL_law_40 4 rfl rfl)
theorem dL_law_1088 : decode cL_law 1088 = .ok (.laload, 1) := dk_47 (dk_at dksL_law_40 5 rfl rfl)
theorem dL_law_1089 : decode cL_law 1089 = .ok (.iload 7, 2) := dk_21 7 (dk_at dksL_law_40 6 rfl rfl)
theorem dL_law_1091 : decode cL_law 1091 = .ok (.i2l, 1) := dk_133 (dk_at dksL_law_40 8 rfl rfl)
theorem dL_law_1092 : decode cL_law 1092 = .ok (.lcmp, 1) := dk_148 (dk_at dksL_law_40 9 rfl rfl)
theorem dL_law_1093 : decode cL_law 1093 = .ok (.ifCond .eq 5, 3) := dk_153 0 5 (dk_at dksL_law_40 10 rfl rfl)
theorem dL_law_1096 : decode cL_law 1096 = .ok (.iconst 0, 1) := dk_3 (dk_at dksL_law_40 13 rfl rfl)
theorem dL_law_1097 : decode cL_law 1097 = .ok (.ireturn, 1) := dk_172 (dk_at dksL_law_40 14 rfl rfl)
theorem dL_law_1098 : decode cL_law 1098 = .ok (.goto 1227, 3) := dk_167 4 203 (dk_at dksL_law_40 15 rfl rfl)
theorem dL_law_1101 : decode cL_law 1101 = .ok (.aload_n 1, 1) := dk_43 (dk_at dksL_law_40 18 rfl rfl)
theorem dL_law_1102 : decode cL_law 1102 = .ok (.aload_n 0, 1) := dk_42 (dk_at dksL_law_40 19 rfl rfl)
theorem dL_law_1103 : decode cL_law 1103 = .ok (.iload 5, 2) := dk_21 5 (dk_at dksL_law_40 20 rfl rfl)
theorem dL_law_1105 : decode cL_law 1105 = .ok (.iconst 1, 1) := dk_4 (dk_at dksL_law_40 22 rfl rfl)
theorem dL_law_1106 : decode cL_law 1106 = .ok (.iadd, 1) := dk_96 (dk_at dksL_law_40 23 rfl rfl)
theorem dL_law_1107 : decode cL_law 1107 = .ok (.iaload, 1) := dk_46 (dk_at dksL_law_41 0 rfl rfl)
theorem dL_law_1108 : decode cL_law 1108 = .ok (.aload_n 3, 1) := dk_45 (dk_at dksL_law_41 1 rfl rfl)
theorem dL_law_1109 : decode cL_law 1109 = .ok (.invokestatic 195, 3) := dk_184 0 195 (dk_at dksL_law_41 2 rfl rfl)
theorem dL_law_1112 : decode cL_law 1112 = .ok (.istore 6, 2) := dk_54 6 (dk_at dksL_law_41 5 rfl rfl)
theorem dL_law_1114 : decode cL_law 1114 = .ok (.aload_n 2, 1) := dk_44 (dk_at dksL_law_41 7 rfl rfl)
theorem dL_law_1115 : decode cL_law 1115 = .ok (.aload_n 0, 1) := dk_42 (dk_at dksL_law_41 8 rfl rfl)
theorem dL_law_1116 : decode cL_law 1116 = .ok (.iload 5, 2) := dk_21 5 (dk_at dksL_law_41 9 rfl rfl)
theorem dL_law_1118 : decode cL_law 1118 = .ok (.iconst 1, 1) := dk_4 (dk_at dksL_law_41 11 rfl rfl)
theorem dL_law_1119 : decode cL_law 1119 = .ok (.iadd, 1) := dk_96 (dk_at dksL_law_41 12 rfl rfl)
theorem dL_law_1120 : decode cL_law 1120 = .ok (.iaload, 1) := dk_46 (dk_at dksL_law_41 13 rfl rfl)
theorem dL_law_1121 : decode cL_law 1121 = .ok (.invokevirtual 197, 3) := dk_182 0 197 (dk_at dksL_law_41 14 rfl rfl)
theorem dL_law_1124 : decode cL_law 1124 = .ok (.istore 7, 2) := dk_54 7 (dk_at dksL_law_41 17 rfl rfl)
theorem dL_law_1126 : decode cL_law 1126 = .ok (.aload_n 2, 1) := dk_44 (dk_at dksL_law_41 19 rfl rfl)
theorem dL_law_1127 : decode cL_law 1127 = .ok (.invokevirtual 140, 3) := dk_182 0 140 (dk_at dksL_law_41 20 rfl rfl)
theorem dL_law_1130 : decode cL_law 1130 = .ok (.iload 6, 2) := dk_21 6 (dk_at dksL_law_42 0 rfl rfl)
theorem dL_law_1132 : decode cL_law 1132 = .ok (.if_icmp .eq 5, 3) := dk_159 0 5 (dk_at dksL_law_42 2 rfl rfl)
theorem dL_law_1135 : decode cL_law 1135 = .ok (.iconst 0, 1) := dk_3 (dk_at dksL_law_42 5 rfl rfl)
theorem dL_law_1136 : decode cL_law 1136 = .ok (.ireturn, 1) := dk_172 (dk_at dksL_law_42 6 rfl rfl)
theorem dL_law_1137 : decode cL_law 1137 = .ok (.iload 6, 2) := dk_21 6 (dk_at dksL_law_42 7 rfl rfl)
theorem dL_law_1139 : decode cL_law 1139 = .ok (.ifCond .ne 22, 3) := dk_154 0 22 (dk_at dksL_law_42 9 rfl rfl)
theorem dL_law_1142 : decode cL_law 1142 = .ok (.aload_n 3, 1) := dk_45 (dk_at dksL_law_42 12 rfl rfl)
theorem dL_law_1143 : decode cL_law 1143 = .ok (.iconst 0, 1) := dk_3 (dk_at dksL_law_42 13 rfl rfl)
theorem dL_law_1144 : decode cL_law 1144 = .ok (.laload, 1) := dk_47 (dk_at dksL_law_42 14 rfl rfl)
theorem dL_law_1145 : decode cL_law 1145 = .ok (.iload 7, 2) := dk_21 7 (dk_at dksL_law_42 15 rfl rfl)
theorem dL_law_1147 : decode cL_law 1147 = .ok (.ifCond .eq 7, 3) := dk_153 0 7 (dk_at dksL_law_42 17 rfl rfl)
theorem dL_law_1150 : decode cL_law 1150 = .ok (.lconst 1, 1) := dk_10 (dk_at dksL_law_42 20 rfl rfl)
theorem dL_law_1151 : decode cL_law 1151 = .ok (.goto 4, 3) := dk_167 0 4 (dk_at dksL_law_42 21 rfl rfl)
theorem dL_law_1154 : decode cL_law 1154 = .ok (.lconst 0, 1) := dk_9 (dk_at dksL_law_43 0 rfl rfl)
theorem dL_law_1155 : decode cL_law 1155 = .ok (.lcmp, 1) := dk_148 (dk_at dksL_law_43 1 rfl rfl)
theorem dL_law_1156 : decode cL_law 1156 = .ok (.ifCond .eq 5, 3) := dk_153 0 5 (dk_at dksL_law_43 2 rfl rfl)
theorem dL_law_1159 : decode cL_law 1159 = .ok (.iconst 0, 1) := dk_3 (dk_at dksL_law_43 5 rfl rfl)
theorem dL_law_1160 : decode cL_law 1160 = .ok (.ireturn, 1) := dk_172 (dk_at dksL_law_43 6 rfl rfl)
theorem dL_law_1161 : decode cL_law 1161 = .ok (.goto 1164, 3) := dk_167 4 140 (dk_at dksL_law_43 7 rfl rfl)
theorem dL_law_1164 : decode cL_law 1164 = .ok (.aload_n 1, 1) := dk_43 (dk_at dksL_law_43 10 rfl rfl)
theorem dL_law_1165 : decode cL_law 1165 = .ok (.aload_n 0, 1) := dk_42 (dk_at dksL_law_43 11 rfl rfl)
theorem dL_law_1166 : decode cL_law 1166 = .ok (.iload 5, 2) := dk_21 5 (dk_at dksL_law_43 12 rfl rfl)
theorem dL_law_1168 : decode cL_law 1168 = .ok (.iconst 1, 1) := dk_4 (dk_at dksL_law_43 14 rfl rfl)
theorem dL_law_1169 : decode cL_law 1169 = .ok (.iadd, 1) := dk_96 (dk_at dksL_law_43 15 rfl rfl)
theorem dL_law_1170 : decode cL_law 1170 = .ok (.iaload, 1) := dk_46 (dk_at dksL_law_43 16 rfl rfl)
theorem dL_law_1171 : decode cL_law 1171 = .ok (.aload_n 3, 1) := dk_45 (dk_at dksL_law_43 17 rfl rfl)
theorem dL_law_1172 : decode cL_law 1172 = .ok (.invokestatic 198, 3) := dk_184 0 198 (dk_at dksL_law_43 18 rfl rfl)
theorem dL_law_1175 : decode cL_law 1175 = .ok (.istore 6, 2) := dk_54 6 (dk_at dksL_law_43 21 rfl rfl)
theorem dL_law_1177 : decode cL_law 1177 = .ok (.aload_n 2, 1) := dk_44 (dk_at dksL_law_43 23 rfl rfl)
theorem dL_law_1178 : decode cL_law 1178 = .ok (.aload_n 0, 1) := dk_42 (dk_at dksL_law_44 0 rfl rfl)
theorem dL_law_1179 : decode cL_law 1179 = .ok (.iload 5, 2) := dk_21 5 (dk_at dksL_law_44 1 rfl rfl)
theorem dL_law_1181 : decode cL_law 1181 = .ok (.iconst 1, 1) := dk_4 (dk_at dksL_law_44 3 rfl rfl)
theorem dL_law_1182 : decode cL_law 1182 = .ok (.iadd, 1) := dk_96 (dk_at dksL_law_44 4 rfl rfl)
theorem dL_law_1183 : decode cL_law 1183 = .ok (.iaload, 1) := dk_46 (dk_at dksL_law_44 5 rfl rfl)
theorem dL_law_1184 : decode cL_law 1184 = .ok (.invokevirtual 200, 3) := dk_182 0 200 (dk_at dksL_law_44 6 rfl rfl)
theorem dL_law_1187 : decode cL_law 1187 = .ok (.istore 7, 2) := dk_54 7 (dk_at dksL_law_44 9 rfl rfl)
theorem dL_law_1189 : decode cL_law 1189 = .ok (.aload_n 2, 1) := dk_44 (dk_at dksL_law_44 11 rfl rfl)
theorem dL_law_1190 : decode cL_law 1190 = .ok (.invokevirtual 140, 3) := dk_182 0 140 (dk_at dksL_law_44 12 rfl rfl)
theorem dL_law_1193 : decode cL_law 1193 = .ok (.iload 6, 2) := dk_21 6 (dk_at dksL_law_44 15 rfl rfl)
theorem dL_law_1195 : decode cL_law 1195 = .ok (.if_icmp .eq 5, 3) := dk_159 0 5 (dk_at dksL_law_44 17 rfl rfl)
theorem dL_law_1198 : decode cL_law 1198 = .ok (.iconst 0, 1) := dk_3 (dk_at dksL_law_44 20 rfl rfl)
theorem dL_law_1199 : decode cL_law 1199 = .ok (.ireturn, 1) := dk_172 (dk_at dksL_law_44 21 rfl rfl)
theorem dL_law_1200 : decode cL_law 1200 = .ok (.iload 6, 2) := dk_21 6 (dk_at dksL_law_44 22 rfl rfl)
theorem dL_law_1202 : decode cL_law 1202 = .ok (.ifCond .ne 15, 3) := dk_154 0 15 (dk_at dksL_law_45 0 rfl rfl)
theorem dL_law_1205 : decode cL_law 1205 = .ok (.aload_n 3, 1) := dk_45 (dk_at dksL_law_45 3 rfl rfl)
theorem dL_law_1206 : decode cL_law 1206 = .ok (.iconst 0, 1) := dk_3 (dk_at dksL_law_45 4 rfl rfl)
theorem dL_law_1207 : decode cL_law 1207 = .ok (.laload, 1) := dk_47 (dk_at dksL_law_45 5 rfl rfl)
theorem dL_law_1208 : decode cL_law 1208 = .ok (.iload 7, 2) := dk_21 7 (dk_at dksL_law_45 6 rfl rfl)
theorem dL_law_1210 : decode cL_law 1210 = .ok (.i2l, 1) := dk_133 (dk_at dksL_law_45 8 rfl rfl)
theorem dL_law_1211 : decode cL_law 1211 = .ok (.lcmp, 1) := dk_148 (dk_at dksL_law_45 9 rfl rfl)
theorem dL_law_1212 : decode cL_law 1212 = .ok (.ifCond .eq 5, 3) := dk_153 0 5 (dk_at dksL_law_45 10 rfl rfl)
theorem dL_law_1215 : decode cL_law 1215 = .ok (.iconst 0, 1) := dk_3 (dk_at dksL_law_45 13 rfl rfl)
theorem dL_law_1216 : decode cL_law 1216 = .ok (.ireturn, 1) := dk_172 (dk_at dksL_law_45 14 rfl rfl)
theorem dL_law_1217 : decode cL_law 1217 = .ok (.goto 1108, 3) := dk_167 4 84 (dk_at dksL_law_45 15 rfl rfl)
theorem dL_law_1220 : decode cL_law 1220 = .ok (.aload_n 1, 1) := dk_43 (dk_at dksL_law_45 18 rfl rfl)
theorem dL_law_1221 : decode cL_law 1221 = .ok (.aload_n 0, 1) := dk_42 (dk_at dksL_law_45 19 rfl rfl)
theorem dL_law_1222 : decode cL_law 1222 = .ok (.iload 5, 2) := dk_21 5 (dk_at dksL_law_45 20 rfl rfl)
theorem dL_law_1224 : decode cL_law 1224 = .ok (.iconst 1, 1) := dk_4 (dk_at dksL_law_45 22 rfl rfl)
theorem dL_law_1225 : decode cL_law 1225 = .ok (.iadd, 1) := dk_96 (dk_at dksL_law_45 23 rfl rfl)
theorem dL_law_1226 : decode cL_law 1226 = .ok (.iaload, 1) := dk_46 (dk_at dksL_law_46 0 rfl rfl)
theorem dL_law_1227 : decode cL_law 1227 = .ok (.aload_n 3, 1) := dk_45 (dk_at dksL_law_46 1 rfl rfl)
theorem dL_law_1228 : decode cL_law 1228 = .ok (.invokestatic 201, 3) := dk_184 0 201 (dk_at dksL_law_46 2 rfl rfl)
theorem dL_law_1231 : decode cL_law 1231 = .ok (.istore 6, 2) := dk_54 6 (dk_at dksL_law_46 5 rfl rfl)
theorem dL_law_1233 : decode cL_law 1233 = .ok (.aload_n 2, 1) := dk_44 (dk_at dksL_law_46 7 rfl rfl)
theorem dL_law_1234 : decode cL_law 1234 = .ok (.aload_n 0, 1) := dk_42 (dk_at dksL_law_46 8 rfl rfl)
theorem dL_law_1235 : decode cL_law 1235 = .ok (.iload 5, 2) := dk_21 5 (dk_at dksL_law_46 9 rfl rfl)
theorem dL_law_1237 : decode cL_law 1237 = .ok (.iconst 1, 1) := dk_4 (dk_at dksL_law_46 11 rfl rfl)
theorem dL_law_1238 : decode cL_law 1238 = .ok (.iadd, 1) := dk_96 (dk_at dksL_law_46 12 rfl rfl)
theorem dL_law_1239 : decode cL_law 1239 = .ok (.iaload, 1) := dk_46 (dk_at dksL_law_46 13 rfl rfl)
theorem dL_law_1240 : decode cL_law 1240 = .ok (.invokevirtual 203, 3) := dk_182 0 203 (dk_at dksL_law_46 14 rfl rfl)
theorem dL_law_1243 : decode cL_law 1243 = .ok (.istore 7, 2) := dk_54 7 (dk_at dksL_law_46 17 rfl rfl)
theorem dL_law_1245 : decode cL_law 1245 = .ok (.aload_n 2, 1) := dk_44 (dk_at dksL_law_46 19 rfl rfl)
theorem dL_law_1246 : decode cL_law 1246 = .ok (.invokevirtual 140, 3) := dk_182 0 140 (dk_at dksL_law_46 20 rfl rfl)
theorem dL_law_1249 : decode cL_law 1249 = .ok (.iload 6, 2) := dk_21 6 (dk_at dksL_law_47 0 rfl rfl)
theorem dL_law_1251 : decode cL_law 1251 = .ok (.if_icmp .eq 5, 3) := dk_159 0 5 (dk_at dksL_law_47 2 rfl rfl)
theorem dL_law_1254 : decode cL_law 1254 = .ok (.iconst 0, 1) := dk_3 (dk_at dksL_law_47 5 rfl rfl)
theorem dL_law_1255 : decode cL_law 1255 = .ok (.ireturn, 1) := dk_172 (dk_at dksL_law_47 6 rfl rfl)
theorem dL_law_1256 : decode cL_law 1256 = .ok (.iload 6, 2) := dk_21 6 (dk_at dksL_law_47 7 rfl rfl)
theorem dL_law_1258 : decode cL_law 1258 = .ok (.ifCond .ne 15, 3) := dk_154 0 15 (dk_at dksL_law_47 9 rfl rfl)
theorem dL_law_1261 : decode cL_law 1261 = .ok (.aload_n 3, 1) := dk_45 (dk_at dksL_law_47 12 rfl rfl)
theorem dL_law_1262 : decode cL_law 1262 = .ok (.iconst 0, 1) := dk_3 (dk_at dksL_law_47 13 rfl rfl)
theorem dL_law_1263 : decode cL_law 1263 = .ok (.laload, 1) := dk_47 (dk_at dksL_law_47 14 rfl rfl)
theorem dL_law_1264 : decode cL_law 1264 = .ok (.iload 7, 2) := dk_21 7 (dk_at dksL_law_47 15 rfl rfl)
theorem dL_law_1266 : decode cL_law 1266 = .ok (.i2l, 1) := dk_133 (dk_at dksL_law_47 17 rfl rfl)
theorem dL_law_1267 : decode cL_law 1267 = .ok (.lcmp, 1) := dk_148 (dk_at dksL_law_47 18 rfl rfl)
theorem dL_law_1268 : decode cL_law 1268 = .ok (.ifCond .eq 5, 3) := dk_153 0 5 (dk_at dksL_law_47 19 rfl rfl)
theorem dL_law_1271 : decode cL_law 1271 = .ok (.iconst 0, 1) := dk_3 (dk_at dksL_law_47 22 rfl rfl)
theorem dL_law_1272 : decode cL_law 1272 = .ok (.ireturn, 1) := dk_172 (dk_at dksL_law_47 23 rfl rfl)
theorem dL_law_1273 : decode cL_law 1273 = .ok (.goto 1052, 3) := dk_167 4 28 (dk_at dksL_law_48 0 rfl rfl)
theorem dL_law_1276 : decode cL_law 1276 = .ok (.aload_n 1, 1) := dk_43 (dk_at dksL_law_48 3 rfl rfl)
theorem dL_law_1277 : decode cL_law 1277 = .ok (.aload_n 0, 1) := dk_42 (dk_at dksL_law_48 4 rfl rfl)
theorem dL_law_1278 : decode cL_law 1278 = .ok (.iload 5, 2) := dk_21 5 (dk_at dksL_law_48 5 rfl rfl)
theorem dL_law_1280 : decode cL_law 1280 = .ok (.iconst 1, 1) := dk_4 (dk_at dksL_law_48 7 rfl rfl)
theorem dL_law_1281 : decode cL_law 1281 = .ok (.iadd, 1) := dk_96 (dk_at dksL_law_48 8 rfl rfl)
theorem dL_law_1282 : decode cL_law 1282 = .ok (.iaload, 1) := dk_46 (dk_at dksL_law_48 9 rfl rfl)
theorem dL_law_1283 : decode cL_law 1283 = .ok (.aload_n 0, 1) := dk_42 (dk_at dksL_law_48 10 rfl rfl)
theorem dL_law_1284 : decode cL_law 1284 = .ok (.iload 5, 2) := dk_21 5 (dk_at dksL_law_48 11 rfl rfl)
theorem dL_law_1286 : decode cL_law 1286 = .ok (.iconst 2, 1) := dk_5 (dk_at dksL_law_48 13 rfl rfl)
theorem dL_law_1287 : decode cL_law 1287 = .ok (.iadd, 1) := dk_96 (dk_at dksL_law_48 14 rfl rfl)
theorem dL_law_1288 : decode cL_law 1288 = .ok (.iaload, 1) := dk_46 (dk_at dksL_law_48 15 rfl rfl)
theorem dL_law_1289 : decode cL_law 1289 = .ok (.aload_n 3, 1) := dk_45 (dk_at dksL_law_48 16 rfl rfl)
theorem dL_law_1290 : decode cL_law 1290 = .ok (.invokestatic 204, 3) := dk_184 0 204 (dk_at dksL_law_48 17 rfl rfl)
theorem dL_law_1293 : decode cL_law 1293 = .ok (.istore 6, 2) := dk_54 6 (dk_at dksL_law_48 20 rfl rfl)
theorem dL_law_1295 : decode cL_law 1295 = .ok (.aload_n 2, 1) := dk_44 (dk_at dksL_law_48 22 rfl rfl)
theorem dL_law_1296 : decode cL_law 1296 = .ok (.aload_n 0, 1) := dk_42 (dk_at dksL_law_48 23 rfl rfl)
theorem dL_law_1297 : decode cL_law 1297 = .ok (.iload 5, 2) := dk_21 5 (dk_at dksL_law_49 0 rfl rfl)
theorem dL_law_1299 : decode cL_law 1299 = .ok (.iconst 1, 1) := dk_4 (dk_at dksL_law_49 2 rfl rfl)
theorem dL_law_1300 : decode cL_law 1300 = .ok (.iadd, 1) := dk_96 (dk_at dksL_law_49 3 rfl rfl)
theorem dL_law_1301 : decode cL_law 1301 = .ok (.iaload, 1) := dk_46 (dk_at dksL_law_49 4 rfl rfl)
theorem dL_law_1302 : decode cL_law 1302 = .ok (.aload_n 0, 1) := dk_42 (dk_at dksL_law_49 5 rfl rfl)
theorem dL_law_1303 : decode cL_law 1303 = .ok (.iload 5, 2) := dk_21 5 (dk_at dksL_law_49 6 rfl rfl)
theorem dL_law_1305 : decode cL_law 1305 = .ok (.iconst 2, 1) := dk_5 (dk_at dksL_law_49 8 rfl rfl)
theorem dL_law_1306 : decode cL_law 1306 = .ok (.iadd, 1) := dk_96 (dk_at dksL_law_49 9 rfl rfl)
theorem dL_law_1307 : decode cL_law 1307 = .ok (.iaload, 1) := dk_46 (dk_at dksL_law_49 10 rfl rfl)
theorem dL_law_1308 : decode cL_law 1308 = .ok (.invokevirtual 206, 3) := dk_182 0 206 (dk_at dksL_law_49 11 rfl rfl)
theorem dL_law_1311 : decode cL_law 1311 = .ok (.istore 7, 2) := dk_54 7 (dk_at dksL_law_49 14 rfl rfl)
theorem dL_law_1313 : decode cL_law 1313 = .ok (.aload_n 2, 1) := dk_44 (dk_at dksL_law_49 16 rfl rfl)
theorem dL_law_1314 : decode cL_law 1314 = .ok (.invokevirtual 140, 3) := dk_182 0 140 (dk_at dksL_law_49 17 rfl rfl)
theorem dL_law_1317 : decode cL_law 1317 = .ok (.iload 6, 2) := dk_21 6 (dk_at dksL_law_49 20 rfl rfl)
theorem dL_law_1319 : decode cL_law 1319 = .ok (.if_icmp .eq 5, 3) := dk_159 0 5 (dk_at dksL_law_50 0 rfl rfl)
theorem dL_law_1322 : decode cL_law 1322 = .ok (.iconst 0, 1) := dk_3 (dk_at dksL_law_50 3 rfl rfl)
theorem dL_law_1323 : decode cL_law 1323 = .ok (.ireturn, 1) := dk_172 (dk_at dksL_law_50 4 rfl rfl)
theorem dL_law_1324 : decode cL_law 1324 = .ok (.iload 6, 2) := dk_21 6 (dk_at dksL_law_50 5 rfl rfl)
theorem dL_law_1326 : decode cL_law 1326 = .ok (.ifCond .ne 15, 3) := dk_154 0 15 (dk_at dksL_law_50 7 rfl rfl)
theorem dL_law_1329 : decode cL_law 1329 = .ok (.aload_n 3, 1) := dk_45 (dk_at dksL_law_50 10 rfl rfl)
theorem dL_law_1330 : decode cL_law 1330 = .ok (.iconst 0, 1) := dk_3 (dk_at dksL_law_50 11 rfl rfl)
theorem dL_law_1331 : decode cL_law 1331 = .ok (.laload, 1) := dk_47 (dk_at dksL_law_50 12 rfl rfl)
theorem dL_law_1332 : decode cL_law 1332 = .ok (.iload 7, 2) := dk_21 7 (dk_at dksL_law_50 13 rfl rfl)
theorem dL_law_1334 : decode cL_law 1334 = .ok (.i2l, 1) := dk_133 (dk_at dksL_law_50 15 rfl rfl)
theorem dL_law_1335 : decode cL_law 1335 = .ok (.lcmp, 1) := dk_148 (dk_at dksL_law_50 16 rfl rfl)
theorem dL_law_1336 : decode cL_law 1336 = .ok (.ifCond .eq 5, 3) := dk_153 0 5 (dk_at dksL_law_50 17 rfl rfl)
theorem dL_law_1339 : decode cL_law 1339 = .ok (.iconst 0, 1) := dk_3 (dk_at dksL_law_50 20 rfl rfl)
theorem dL_law_1340 : decode cL_law 1340 = .ok (.ireturn, 1) := dk_172 (dk_at dksL_law_50 21 rfl rfl)
theorem dL_law_1341 : decode cL_law 1341 = .ok (.goto 984, 3) := dk_167 3 216 (dk_at dksL_law_51 0 rfl rfl)
theorem dL_law_1344 : decode cL_law 1344 = .ok (.aload_n 1, 1) := dk_43 (dk_at dksL_law_51 3 rfl rfl)
theorem dL_law_1345 : decode cL_law 1345 = .ok (.aload_n 0, 1) := dk_42 (dk_at dksL_law_51 4 rfl rfl)
theorem dL_law_1346 : decode cL_law 1346 = .ok (.iload 5, 2) := dk_21 5 (dk_at dksL_law_51 5 rfl rfl)
theorem dL_law_1348 : decode cL_law 1348 = .ok (.iconst 1, 1) := dk_4 (dk_at dksL_law_51 7 rfl rfl)
theorem dL_law_1349 : decode cL_law 1349 = .ok (.iadd, 1) := dk_96 (dk_at dksL_law_51 8 rfl rfl)
theorem dL_law_1350 : decode cL_law 1350 = .ok (.iaload, 1) := dk_46 (dk_at dksL_law_51 9 rfl rfl)
theorem dL_law_1351 : decode cL_law 1351 = .ok (.aload_n 3, 1) := dk_45 (dk_at dksL_law_51 10 rfl rfl)
theorem dL_law_1352 : decode cL_law 1352 = .ok (.invokestatic 207, 3) := dk_184 0 207 (dk_at dksL_law_51 11 rfl rfl)
theorem dL_law_1355 : decode cL_law 1355 = .ok (.istore 6, 2) := dk_54 6 (dk_at dksL_law_51 14 rfl rfl)
theorem dL_law_1357 : decode cL_law 1357 = .ok (.aload_n 2, 1) := dk_44 (dk_at dksL_law_51 16 rfl rfl)
theorem dL_law_1358 : decode cL_law 1358 = .ok (.aload_n 0, 1) := dk_42 (dk_at dksL_law_51 17 rfl rfl)
theorem dL_law_1359 : decode cL_law 1359 = .ok (.iload 5, 2) := dk_21 5 (dk_at dksL_law_51 18 rfl rfl)
theorem dL_law_1361 : decode cL_law 1361 = .ok (.iconst 1, 1) := dk_4 (dk_at dksL_law_51 20 rfl rfl)
theorem dL_law_1362 : decode cL_law 1362 = .ok (.iadd, 1) := dk_96 (dk_at dksL_law_51 21 rfl rfl)
theorem dL_law_1363 : decode cL_law 1363 = .ok (.iaload, 1) := dk_46 (dk_at dksL_law_51 22 rfl rfl)
theorem dL_law_1364 : decode cL_law 1364 = .ok (.invokevirtual 209, 3) := dk_182 0 209 (dk_at dksL_law_52 0 rfl rfl)
theorem dL_law_1367 : decode cL_law 1367 = .ok (.istore 7, 2) := dk_54 7 (dk_at dksL_law_52 3 rfl rfl)
theorem dL_law_1369 : decode cL_law 1369 = .ok (.aload_n 2, 1) := dk_44 (dk_at dksL_law_52 5 rfl rfl)
theorem dL_law_1370 : decode cL_law 1370 = .ok (.invokevirtual 140, 3) := dk_182 0 140 (dk_at dksL_law_52 6 rfl rfl)
theorem dL_law_1373 : decode cL_law 1373 = .ok (.iload 6, 2) := dk_21 6 (dk_at dksL_law_52 9 rfl rfl)
theorem dL_law_1375 : decode cL_law 1375 = .ok (.if_icmp .eq 5, 3) := dk_159 0 5 (dk_at dksL_law_52 11 rfl rfl)
theorem dL_law_1378 : decode cL_law 1378 = .ok (.iconst 0, 1) := dk_3 (dk_at dksL_law_52 14 rfl rfl)
theorem dL_law_1379 : decode cL_law 1379 = .ok (.ireturn, 1) := dk_172 (dk_at dksL_law_52 15 rfl rfl)
theorem dL_law_1380 : decode cL_law 1380 = .ok (.iload 6, 2) := dk_21 6 (dk_at dksL_law_52 16 rfl rfl)
theorem dL_law_1382 : decode cL_law 1382 = .ok (.ifCond .ne 15, 3) := dk_154 0 15 (dk_at dksL_law_52 18 rfl rfl)
theorem dL_law_1385 : decode cL_law 1385 = .ok (.aload_n 3, 1) := dk_45 (dk_at dksL_law_52 21 rfl rfl)
theorem dL_law_1386 : decode cL_law 1386 = .ok (.iconst 0, 1) := dk_3 (dk_at dksL_law_52 22 rfl rfl)
theorem dL_law_1387 : decode cL_law 1387 = .ok (.laload, 1) := dk_47 (dk_at dksL_law_52 23 rfl rfl)
theorem dL_law_1388 : decode cL_law 1388 = .ok (.iload 7, 2) := dk_21 7 (dk_at dksL_law_53 0 rfl rfl)
theorem dL_law_1390 : decode cL_law 1390 = .ok (.i2l, 1) := dk_133 (dk_at dksL_law_53 2 rfl rfl)
theorem dL_law_1391 : decode cL_law 1391 = .ok (.lcmp, 1) := dk_148 (dk_at dksL_law_53 3 rfl rfl)
theorem dL_law_1392 : decode cL_law 1392 = .ok (.ifCond .eq 5, 3) := dk_153 0 5 (dk_at dksL_law_53 4 rfl rfl)
theorem dL_law_1395 : decode cL_law 1395 = .ok (.iconst 0, 1) := dk_3 (dk_at dksL_law_53 7 rfl rfl)
theorem dL_law_1396 : decode cL_law 1396 = .ok (.ireturn, 1) := dk_172 (dk_at dksL_law_53 8 rfl rfl)
theorem dL_law_1397 : decode cL_law 1397 = .ok (.goto 928, 3) := dk_167 3 160 (dk_at dksL_law_53 9 rfl rfl)
theorem dL_law_1400 : decode cL_law 1400 = .ok (.aload_n 1, 1) := dk_43 (dk_at dksL_law_53 12 rfl rfl)
theorem dL_law_1401 : decode cL_law 1401 = .ok (.aload_n 0, 1) := dk_42 (dk_at dksL_law_53 13 rfl rfl)
theorem dL_law_1402 : decode cL_law 1402 = .ok (.iload 5, 2) := dk_21 5 (dk_at dksL_law_53 14 rfl rfl)
theorem dL_law_1404 : decode cL_law 1404 = .ok (.iconst 1, 1) := dk_4 (dk_at dksL_law_53 16 rfl rfl)
theorem dL_law_1405 : decode cL_law 1405 = .ok (.iadd, 1) := dk_96 (dk_at dksL_law_53 17 rfl rfl)
theorem dL_law_1406 : decode cL_law 1406 = .ok (.iaload, 1) := dk_46 (dk_at dksL_law_53 18 rfl rfl)
theorem dL_law_1407 : decode cL_law 1407 = .ok (.aload_n 0, 1) := dk_42 (dk_at dksL_law_53 19 rfl rfl)
theorem dL_law_1408 : decode cL_law 1408 = .ok (.iload 5, 2) := dk_21 5 (dk_at dksL_law_53 20 rfl rfl)
theorem dL_law_1410 : decode cL_law 1410 = .ok (.iconst 2, 1) := dk_5 (dk_at dksL_law_53 22 rfl rfl)
theorem dL_law_1411 : decode cL_law 1411 = .ok (.iadd, 1) := dk_96 (dk_at dksL_law_53 23 rfl rfl)
theorem dL_law_1412 : decode cL_law 1412 = .ok (.iaload, 1) := dk_46 (dk_at dksL_law_54 0 rfl rfl)
theorem dL_law_1413 : decode cL_law 1413 = .ok (.aload_n 3, 1) := dk_45 (dk_at dksL_law_54 1 rfl rfl)
theorem dL_law_1414 : decode cL_law 1414 = .ok (.invokestatic 210, 3) := dk_184 0 210 (dk_at dksL_law_54 2 rfl rfl)
theorem dL_law_1417 : decode cL_law 1417 = .ok (.istore 6, 2) := dk_54 6 (dk_at dksL_law_54 5 rfl rfl)
theorem dL_law_1419 : decode cL_law 1419 = .ok (.aload_n 2, 1) := dk_44 (dk_at dksL_law_54 7 rfl rfl)
theorem dL_law_1420 : decode cL_law 1420 = .ok (.aload_n 0, 1) := dk_42 (dk_at dksL_law_54 8 rfl rfl)
theorem dL_law_1421 : decode cL_law 1421 = .ok (.iload 5, 2) := dk_21 5 (dk_at dksL_law_54 9 rfl rfl)
theorem dL_law_1423 : decode cL_law 1423 = .ok (.iconst 1, 1) := dk_4 (dk_at dksL_law_54 11 rfl rfl)
theorem dL_law_1424 : decode cL_law 1424 = .ok (.iadd, 1) := dk_96 (dk_at dksL_law_54 12 rfl rfl)
theorem dL_law_1425 : decode cL_law 1425 = .ok (.iaload, 1) := dk_46 (dk_at dksL_law_54 13 rfl rfl)
theorem dL_law_1426 : decode cL_law 1426 = .ok (.aload_n 0, 1) := dk_42 (dk_at dksL_law_54 14 rfl rfl)
theorem dL_law_1427 : decode cL_law 1427 = .ok (.iload 5, 2) := dk_21 5 (dk_at dksL_law_54 15 rfl rfl)
theorem dL_law_1429 : decode cL_law 1429 = .ok (.iconst 2, 1) := dk_5 (dk_at dksL_law_54 17 rfl rfl)
theorem dL_law_1430 : decode cL_law 1430 = .ok (.iadd, 1) := dk_96 (dk_at dksL_law_54 18 rfl rfl)
theorem dL_law_1431 : decode cL_law 1431 = .ok (.iaload, 1) := dk_46 (dk_at dksL_law_54 19 rfl rfl)
theorem dL_law_1432 : decode cL_law 1432 = .ok (.invokevirtual 212, 3) := dk_182 0 212 (dk_at dksL_law_54 20 rfl rfl)
theorem dL_law_1435 : decode cL_law 1435 = .ok (.istore 7, 2) := dk_54 7 (dk_at dksL_law_55 0 rfl rfl)
theorem dL_law_1437 : decode cL_law 1437 = .ok (.aload_n 2, 1) := dk_44 (dk_at dksL_law_55 2 rfl rfl)
theorem dL_law_1438 : decode cL_law 1438 = .ok (.invokevirtual 140, 3) := dk_182 0 140 (dk_at dksL_law_55 3 rfl rfl)
theorem dL_law_1441 : decode cL_law 1441 = .ok (.iload 6, 2) := dk_21 6 (dk_at dksL_law_55 6 rfl rfl)
theorem dL_law_1443 : decode cL_law 1443 = .ok (.if_icmp .eq 5, 3) := dk_159 0 5 (dk_at dksL_law_55 8 rfl rfl)
theorem dL_law_1446 : decode cL_law 1446 = .ok (.iconst 0, 1) := dk_3 (dk_at dksL_law_55 11 rfl rfl)
theorem dL_law_1447 : decode cL_law 1447 = .ok (.ireturn, 1) := dk_172 (dk_at dksL_law_55 12 rfl rfl)
theorem dL_law_1448 : decode cL_law 1448 = .ok (.iload 6, 2) := dk_21 6 (dk_at dksL_law_55 13 rfl rfl)
theorem dL_law_1450 : decode cL_law 1450 = .ok (.ifCond .ne 22, 3) := dk_154 0 22 (dk_at dksL_law_55 15 rfl rfl)
theorem dL_law_1453 : decode cL_law 1453 = .ok (.aload_n 3, 1) := dk_45 (dk_at dksL_law_55 18 rfl rfl)
theorem dL_law_1454 : decode cL_law 1454 = .ok (.iconst 0, 1) := dk_3 (dk_at dksL_law_55 19 rfl rfl)
theorem dL_law_1455 : decode cL_law 1455 = .ok (.laload, 1) := dk_47 (dk_at dksL_law_55 20 rfl rfl)
theorem dL_law_1456 : decode cL_law 1456 = .ok (.iload 7, 2) := dk_21 7 (dk_at dksL_law_55 21 rfl rfl)
theorem dL_law_1458 : decode cL_law 1458 = .ok (.ifCond .eq 7, 3) := dk_153 0 7 (dk_at dksL_law_56 0 rfl rfl)
theorem dL_law_1461 : decode cL_law 1461 = .ok (.lconst 1, 1) := dk_10 (dk_at dksL_law_56 3 rfl rfl)
theorem dL_law_1462 : decode cL_law 1462 = .ok (.goto 4, 3) := dk_167 0 4 (dk_at dksL_law_56 4 rfl rfl)
theorem dL_law_1465 : decode cL_law 1465 = .ok (.lconst 0, 1) := dk_9 (dk_at dksL_law_56 7 rfl rfl)
theorem dL_law_1466 : decode cL_law 1466 = .ok (.lcmp, 1) := dk_148 (dk_at dksL_law_56 8 rfl rfl)
theorem dL_law_1467 : decode cL_law 1467 = .ok (.ifCond .eq 5, 3) := dk_153 0 5 (dk_at dksL_law_56 9 rfl rfl)
theorem dL_law_1470 : decode cL_law 1470 = .ok (.iconst 0, 1) := dk_3 (dk_at dksL_law_56 12 rfl rfl)
theorem dL_law_1471 : decode cL_law 1471 = .ok (.ireturn, 1) := dk_172 (dk_at dksL_law_56 13 rfl rfl)
theorem dL_law_1472 : decode cL_law 1472 = .ok (.goto 853, 3) := dk_167 3 85 (dk_at dksL_law_56 14 rfl rfl)
theorem dL_law_1475 : decode cL_law 1475 = .ok (.aload_n 1, 1) := dk_43 (dk_at dksL_law_56 17 rfl rfl)
theorem dL_law_1476 : decode cL_law 1476 = .ok (.aload_n 0, 1) := dk_42 (dk_at dksL_law_56 18 rfl rfl)
theorem dL_law_1477 : decode cL_law 1477 = .ok (.iload 5, 2) := dk_21 5 (dk_at dksL_law_56 19 rfl rfl)
theorem dL_law_1479 : decode cL_law 1479 = .ok (.iconst 1, 1) := dk_4 (dk_at dksL_law_56 21 rfl rfl)
theorem dL_law_1480 : decode cL_law 1480 = .ok (.iadd, 1) := dk_96 (dk_at dksL_law_56 22 rfl rfl)
theorem dL_law_1481 : decode cL_law 1481 = .ok (.iaload, 1) := dk_46 (dk_at dksL_law_56 23 rfl rfl)
theorem dL_law_1482 : decode cL_law 1482 = .ok (.aload_n 3, 1) := dk_45 (dk_at dksL_law_57 0 rfl rfl)
theorem dL_law_1483 : decode cL_law 1483 = .ok (.invokestatic 213, 3) := dk_184 0 213 (dk_at dksL_law_57 1 rfl rfl)
theorem dL_law_1486 : decode cL_law 1486 = .ok (.istore 6, 2) := dk_54 6 (dk_at dksL_law_57 4 rfl rfl)
theorem dL_law_1488 : decode cL_law 1488 = .ok (.aload_n 2, 1) := dk_44 (dk_at dksL_law_57 6 rfl rfl)
theorem dL_law_1489 : decode cL_law 1489 = .ok (.aload_n 0, 1) := dk_42 (dk_at dksL_law_57 7 rfl rfl)
theorem dL_law_1490 : decode cL_law 1490 = .ok (.iload 5, 2) := dk_21 5 (dk_at dksL_law_57 8 rfl rfl)
theorem dL_law_1492 : decode cL_law 1492 = .ok (.iconst 1, 1) := dk_4 (dk_at dksL_law_57 10 rfl rfl)
theorem dL_law_1493 : decode cL_law 1493 = .ok (.iadd, 1) := dk_96 (dk_at dksL_law_57 11 rfl rfl)
theorem dL_law_1494 : decode cL_law 1494 = .ok (.iaload, 1) := dk_46 (dk_at dksL_law_57 12 rfl rfl)
theorem dL_law_1495 : decode cL_law 1495 = .ok (.invokevirtual 215, 3) := dk_182 0 215 (dk_at dksL_law_57 13 rfl rfl)
theorem dL_law_1498 : decode cL_law 1498 = .ok (.istore 7, 2) := dk_54 7 (dk_at dksL_law_57 16 rfl rfl)
theorem dL_law_1500 : decode cL_law 1500 = .ok (.aload_n 2, 1) := dk_44 (dk_at dksL_law_57 18 rfl rfl)
theorem dL_law_1501 : decode cL_law 1501 = .ok (.invokevirtual 140, 3) := dk_182 0 140 (dk_at dksL_law_57 19 rfl rfl)
theorem dL_law_1504 : decode cL_law 1504 = .ok (.iload 6, 2) := dk_21 6 (dk_at dksL_law_57 22 rfl rfl)
theorem dL_law_1506 : decode cL_law 1506 = .ok (.if_icmp .eq 5, 3) := dk_159 0 5 (dk_at dksL_law_58 0 rfl rfl)
theorem dL_law_1509 : decode cL_law 1509 = .ok (.iconst 0, 1) := dk_3 (dk_at dksL_law_58 3 rfl rfl)
theorem dL_law_1510 : decode cL_law 1510 = .ok (.ireturn, 1) := dk_172 (dk_at dksL_law_58 4 rfl rfl)
theorem dL_law_1511 : decode cL_law 1511 = .ok (.iload 6, 2) := dk_21 6 (dk_at dksL_law_58 5 rfl rfl)
theorem dL_law_1513 : decode cL_law 1513 = .ok (.ifCond .ne 15, 3) := dk_154 0 15 (dk_at dksL_law_58 7 rfl rfl)
theorem dL_law_1516 : decode cL_law 1516 = .ok (.aload_n 3, 1) := dk_45 (dk_at dksL_law_58 10 rfl rfl)
theorem dL_law_1517 : decode cL_law 1517 = .ok (.iconst 0, 1) := dk_3 (dk_at dksL_law_58 11 rfl rfl)
theorem dL_law_1518 : decode cL_law 1518 = .ok (.laload, 1) := dk_47 (dk_at dksL_law_58 12 rfl rfl)
theorem dL_law_1519 : decode cL_law 1519 = .ok (.iload 7, 2) := dk_21 7 (dk_at dksL_law_58 13 rfl rfl)
theorem dL_law_1521 : decode cL_law 1521 = .ok (.i2l, 1) := dk_133 (dk_at dksL_law_58 15 rfl rfl)
theorem dL_law_1522 : decode cL_law 1522 = .ok (.lcmp, 1) := dk_148 (dk_at dksL_law_58 16 rfl rfl)
theorem dL_law_1523 : decode cL_law 1523 = .ok (.ifCond .eq 5, 3) := dk_153 0 5 (dk_at dksL_law_58 17 rfl rfl)
theorem dL_law_1526 : decode cL_law 1526 = .ok (.iconst 0, 1) := dk_3 (dk_at dksL_law_58 20 rfl rfl)
theorem dL_law_1527 : decode cL_law 1527 = .ok (.ireturn, 1) := dk_172 (dk_at dksL_law_58 21 rfl rfl)
theorem dL_law_1528 : decode cL_law 1528 = .ok (.goto 797, 3) := dk_167 3 29 (dk_at dksL_law_59 0 rfl rfl)
theorem dL_law_1531 : decode cL_law 1531 = .ok (.aload_n 1, 1) := dk_43 (dk_at dksL_law_59 3 rfl rfl)
theorem dL_law_1532 : decode cL_law 1532 = .ok (.invokevirtual 216, 3) := dk_182 0 216 (dk_at dksL_law_59 4 rfl rfl)
theorem dL_law_1535 : decode cL_law 1535 = .ok (.aload_n 2, 1) := dk_44 (dk_at dksL_law_59 7 rfl rfl)
theorem dL_law_1536 : decode cL_law 1536 = .ok (.invokevirtual 219, 3) := dk_182 0 219 (dk_at dksL_law_59 8 rfl rfl)
theorem dL_law_1539 : decode cL_law 1539 = .ok (.if_icmp .eq 786, 3) := dk_159 3 18 (dk_at dksL_law_59 11 rfl rfl)
theorem dL_law_1542 : decode cL_law 1542 = .ok (.iconst 0, 1) := dk_3 (dk_at dksL_law_59 14 rfl rfl)
theorem dL_law_1543 : decode cL_law 1543 = .ok (.ireturn, 1) := dk_172 (dk_at dksL_law_59 15 rfl rfl)
theorem dL_law_1544 : decode cL_law 1544 = .ok (.aload_n 1, 1) := dk_43 (dk_at dksL_law_59 16 rfl rfl)
theorem dL_law_1545 : decode cL_law 1545 = .ok (.aload_n 0, 1) := dk_42 (dk_at dksL_law_59 17 rfl rfl)
theorem dL_law_1546 : decode cL_law 1546 = .ok (.iload 5, 2) := dk_21 5 (dk_at dksL_law_59 18 rfl rfl)
theorem dL_law_1548 : decode cL_law 1548 = .ok (.iconst 1, 1) := dk_4 (dk_at dksL_law_59 20 rfl rfl)
theorem dL_law_1549 : decode cL_law 1549 = .ok (.iadd, 1) := dk_96 (dk_at dksL_law_59 21 rfl rfl)
theorem dL_law_1550 : decode cL_law 1550 = .ok (.iaload, 1) := dk_46 (dk_at dksL_law_59 22 rfl rfl)
theorem dL_law_1551 : decode cL_law 1551 = .ok (.aload_n 3, 1) := dk_45 (dk_at dksL_law_59 23 rfl rfl)
theorem dL_law_1552 : decode cL_law 1552 = .ok (.invokestatic 220, 3) := dk_184 0 220 (dk_at dksL_law_60 0 rfl rfl)
theorem dL_law_1555 : decode cL_law 1555 = .ok (.istore 6, 2) := dk_54 6 (dk_at dksL_law_60 3 rfl rfl)
theorem dL_law_1557 : decode cL_law 1557 = .ok (.aload_n 2, 1) := dk_44 (dk_at dksL_law_60 5 rfl rfl)
theorem dL_law_1558 : decode cL_law 1558 = .ok (.aload_n 0, 1) := dk_42 (dk_at dksL_law_60 6 rfl rfl)
theorem dL_law_1559 : decode cL_law 1559 = .ok (.iload 5, 2) := dk_21 5 (dk_at dksL_law_60 7 rfl rfl)
theorem dL_law_1561 : decode cL_law 1561 = .ok (.iconst 1, 1) := dk_4 (dk_at dksL_law_60 9 rfl rfl)
theorem dL_law_1562 : decode cL_law 1562 = .ok (.iadd, 1) := dk_96 (dk_at dksL_law_60 10 rfl rfl)
theorem dL_law_1563 : decode cL_law 1563 = .ok (.iaload, 1) := dk_46 (dk_at dksL_law_60 11 rfl rfl)
theorem dL_law_1564 : decode cL_law 1564 = .ok (.invokevirtual 222, 3) := dk_182 0 222 (dk_at dksL_law_60 12 rfl rfl)
theorem dL_law_1567 : decode cL_law 1567 = .ok (.istore 7, 2) := dk_54 7 (dk_at dksL_law_60 15 rfl rfl)
theorem dL_law_1569 : decode cL_law 1569 = .ok (.aload_n 2, 1) := dk_44 (dk_at dksL_law_60 17 rfl rfl)
theorem dL_law_1570 : decode cL_law 1570 = .ok (.invokevirtual 140, 3) := dk_182 0 140 (dk_at dksL_law_60 18 rfl rfl)
theorem dL_law_1573 : decode cL_law 1573 = .ok (.iload 6, 2) := dk_21 6 (dk_at dksL_law_60 21 rfl rfl)
theorem dL_law_1575 : decode cL_law 1575 = .ok (.if_icmp .eq 5, 3) := dk_159 0 5 (dk_at dksL_law_61 0 rfl rfl)
theorem dL_law_1578 : decode cL_law 1578 = .ok (.iconst 0, 1) := dk_3 (dk_at dksL_law_61 3 rfl rfl)
theorem dL_law_1579 : decode cL_law 1579 = .ok (.ireturn, 1) := dk_172 (dk_at dksL_law_61 4 rfl rfl)
theorem dL_law_1580 : decode cL_law 1580 = .ok (.iload 6, 2) := dk_21 6 (dk_at dksL_law_61 5 rfl rfl)
theorem dL_law_1582 : decode cL_law 1582 = .ok (.ifCond .ne 15, 3) := dk_154 0 15 (dk_at dksL_law_61 7 rfl rfl)
theorem dL_law_1585 : decode cL_law 1585 = .ok (.aload_n 3, 1) := dk_45 (dk_at dksL_law_61 10 rfl rfl)
theorem dL_law_1586 : decode cL_law 1586 = .ok (.iconst 0, 1) := dk_3 (dk_at dksL_law_61 11 rfl rfl)
theorem dL_law_1587 : decode cL_law 1587 = .ok (.laload, 1) := dk_47 (dk_at dksL_law_61 12 rfl rfl)
theorem dL_law_1588 : decode cL_law 1588 = .ok (.iload 7, 2) := dk_21 7 (dk_at dksL_law_61 13 rfl rfl)
theorem dL_law_1590 : decode cL_law 1590 = .ok (.i2l, 1) := dk_133 (dk_at dksL_law_61 15 rfl rfl)
theorem dL_law_1591 : decode cL_law 1591 = .ok (.lcmp, 1) := dk_148 (dk_at dksL_law_61 16 rfl rfl)
theorem dL_law_1592 : decode cL_law 1592 = .ok (.ifCond .eq 5, 3) := dk_153 0 5 (dk_at dksL_law_61 17 rfl rfl)
theorem dL_law_1595 : decode cL_law 1595 = .ok (.iconst 0, 1) := dk_3 (dk_at dksL_law_61 20 rfl rfl)
theorem dL_law_1596 : decode cL_law 1596 = .ok (.ireturn, 1) := dk_172 (dk_at dksL_law_61 21 rfl rfl)
theorem dL_law_1597 : decode cL_law 1597 = .ok (.goto 728, 3) := dk_167 2 216 (dk_at dksL_law_62 0 rfl rfl)
theorem dL_law_1600 : decode cL_law 1600 = .ok (.aload_n 1, 1) := dk_43 (dk_at dksL_law_62 3 rfl rfl)
theorem dL_law_1601 : decode cL_law 1601 = .ok (.aload_n 0, 1) := dk_42 (dk_at dksL_law_62 4 rfl rfl)
theorem dL_law_1602 : decode cL_law 1602 = .ok (.iload 5, 2) := dk_21 5 (dk_at dksL_law_62 5 rfl rfl)
theorem dL_law_1604 : decode cL_law 1604 = .ok (.iconst 1, 1) := dk_4 (dk_at dksL_law_62 7 rfl rfl)
theorem dL_law_1605 : decode cL_law 1605 = .ok (.iadd, 1) := dk_96 (dk_at dksL_law_62 8 rfl rfl)
theorem dL_law_1606 : decode cL_law 1606 = .ok (.iaload, 1) := dk_46 (dk_at dksL_law_62 9 rfl rfl)
theorem dL_law_1607 : decode cL_law 1607 = .ok (.aload_n 3, 1) := dk_45 (dk_at dksL_law_62 10 rfl rfl)
theorem dL_law_1608 : decode cL_law 1608 = .ok (.invokestatic 223, 3) := dk_184 0 223 (dk_at dksL_law_62 11 rfl rfl)
theorem dL_law_1611 : decode cL_law 1611 = .ok (.istore 6, 2) := dk_54 6 (dk_at dksL_law_62 14 rfl rfl)
theorem dL_law_1613 : decode cL_law 1613 = .ok (.aload_n 2, 1) := dk_44 (dk_at dksL_law_62 16 rfl rfl)
theorem dL_law_1614 : decode cL_law 1614 = .ok (.aload_n 0, 1) := dk_42 (dk_at dksL_law_62 17 rfl rfl)
theorem dL_law_1615 : decode cL_law 1615 = .ok (.iload 5, 2) := dk_21 5 (dk_at dksL_law_62 18 rfl rfl)
theorem dL_law_1617 : decode cL_law 1617 = .ok (.iconst 1, 1) := dk_4 (dk_at dksL_law_62 20 rfl rfl)
theorem dL_law_1618 : decode cL_law 1618 = .ok (.iadd, 1) := dk_96 (dk_at dksL_law_62 21 rfl rfl)
theorem dL_law_1619 : decode cL_law 1619 = .ok (.iaload, 1) := dk_46 (dk_at dksL_law_62 22 rfl rfl)
theorem dL_law_1620 : decode cL_law 1620 = .ok (.invokevirtual 225, 3) := dk_182 0 225 (dk_at dksL_law_63 0 rfl rfl)
theorem dL_law_1623 : decode cL_law 1623 = .ok (.istore 7, 2) := dk_54 7 (dk_at dksL_law_63 3 rfl rfl)
theorem dL_law_1625 : decode cL_law 1625 = .ok (.aload_n 2, 1) := dk_44 (dk_at dksL_law_63 5 rfl rfl)
theorem dL_law_1626 : decode cL_law 1626 = .ok (.invokevirtual 140, 3) := dk_182 0 140 (dk_at dksL_law_63 6 rfl rfl)
theorem dL_law_1629 : decode cL_law 1629 = .ok (.iload 6, 2) := dk_21 6 (dk_at dksL_law_63 9 rfl rfl)
theorem dL_law_1631 : decode cL_law 1631 = .ok (.if_icmp .eq 5, 3) := dk_159 0 5 (dk_at dksL_law_63 11 rfl rfl)
theorem dL_law_1634 : decode cL_law 1634 = .ok (.iconst 0, 1) := dk_3 (dk_at dksL_law_63 14 rfl rfl)
theorem dL_law_1635 : decode cL_law 1635 = .ok (.ireturn, 1) := dk_172 (dk_at dksL_law_63 15 rfl rfl)
theorem dL_law_1636 : decode cL_law 1636 = .ok (.iload 6, 2) := dk_21 6 (dk_at dksL_law_63 16 rfl rfl)
theorem dL_law_1638 : decode cL_law 1638 = .ok (.ifCond .ne 15, 3) := dk_154 0 15 (dk_at dksL_law_63 18 rfl rfl)
theorem dL_law_1641 : decode cL_law 1641 = .ok (.aload_n 3, 1) := dk_45 (dk_at dksL_law_63 21 rfl rfl)
theorem dL_law_1642 : decode cL_law 1642 = .ok (.iconst 0, 1) := dk_3 (dk_at dksL_law_63 22 rfl rfl)
theorem dL_law_1643 : decode cL_law 1643 = .ok (.laload, 1) := dk_47 (dk_at dksL_law_63 23 rfl rfl)
theorem dL_law_1644 : decode cL_law 1644 = .ok (.iload 7, 2) := dk_21 7 (dk_at dksL_law_64 0 rfl rfl)
theorem dL_law_1646 : decode cL_law 1646 = .ok (.i2l, 1) := dk_133 (dk_at dksL_law_64 2 rfl rfl)
theorem dL_law_1647 : decode cL_law 1647 = .ok (.lcmp, 1) := dk_148 (dk_at dksL_law_64 3 rfl rfl)
theorem dL_law_1648 : decode cL_law 1648 = .ok (.ifCond .eq 5, 3) := dk_153 0 5 (dk_at dksL_law_64 4 rfl rfl)
theorem dL_law_1651 : decode cL_law 1651 = .ok (.iconst 0, 1) := dk_3 (dk_at dksL_law_64 7 rfl rfl)
theorem dL_law_1652 : decode cL_law 1652 = .ok (.ireturn, 1) := dk_172 (dk_at dksL_law_64 8 rfl rfl)
theorem dL_law_1653 : decode cL_law 1653 = .ok (.goto 672, 3) := dk_167 2 160 (dk_at dksL_law_64 9 rfl rfl)
theorem dL_law_1656 : decode cL_law 1656 = .ok (.aload_n 1, 1) := dk_43 (dk_at dksL_law_64 12 rfl rfl)
theorem dL_law_1657 : decode cL_law 1657 = .ok (.aload_n 0, 1) := dk_42 (dk_at dksL_law_64 13 rfl rfl)
theorem dL_law_1658 : decode cL_law 1658 = .ok (.iload 5, 2) := dk_21 5 (dk_at dksL_law_64 14 rfl rfl)
theorem dL_law_1660 : decode cL_law 1660 = .ok (.iconst 1, 1) := dk_4 (dk_at dksL_law_64 16 rfl rfl)
theorem dL_law_1661 : decode cL_law 1661 = .ok (.iadd, 1) := dk_96 (dk_at dksL_law_64 17 rfl rfl)
theorem dL_law_1662 : decode cL_law 1662 = .ok (.iaload, 1) := dk_46 (dk_at dksL_law_64 18 rfl rfl)
theorem dL_law_1663 : decode cL_law 1663 = .ok (.aload_n 0, 1) := dk_42 (dk_at dksL_law_64 19 rfl rfl)
theorem dL_law_1664 : decode cL_law 1664 = .ok (.iload 5, 2) := dk_21 5 (dk_at dksL_law_64 20 rfl rfl)
theorem dL_law_1666 : decode cL_law 1666 = .ok (.iconst 2, 1) := dk_5 (dk_at dksL_law_64 22 rfl rfl)
theorem dL_law_1667 : decode cL_law 1667 = .ok (.iadd, 1) := dk_96 (dk_at dksL_law_64 23 rfl rfl)
theorem dL_law_1668 : decode cL_law 1668 = .ok (.iaload, 1) := dk_46 (dk_at dksL_law_65 0 rfl rfl)
theorem dL_law_1669 : decode cL_law 1669 = .ok (.aload_n 3, 1) := dk_45 (dk_at dksL_law_65 1 rfl rfl)
theorem dL_law_1670 : decode cL_law 1670 = .ok (.invokestatic 226, 3) := dk_184 0 226 (dk_at dksL_law_65 2 rfl rfl)
theorem dL_law_1673 : decode cL_law 1673 = .ok (.istore 6, 2) := dk_54 6 (dk_at dksL_law_65 5 rfl rfl)
theorem dL_law_1675 : decode cL_law 1675 = .ok (.aload_n 2, 1) := dk_44 (dk_at dksL_law_65 7 rfl rfl)
theorem dL_law_1676 : decode cL_law 1676 = .ok (.aload_n 0, 1) := dk_42 (dk_at dksL_law_65 8 rfl rfl)
theorem dL_law_1677 : decode cL_law 1677 = .ok (.iload 5, 2) := dk_21 5 (dk_at dksL_law_65 9 rfl rfl)
theorem dL_law_1679 : decode cL_law 1679 = .ok (.iconst 1, 1) := dk_4 (dk_at dksL_law_65 11 rfl rfl)
theorem dL_law_1680 : decode cL_law 1680 = .ok (.iadd, 1) := dk_96 (dk_at dksL_law_65 12 rfl rfl)
theorem dL_law_1681 : decode cL_law 1681 = .ok (.iaload, 1) := dk_46 (dk_at dksL_law_65 13 rfl rfl)
theorem dL_law_1682 : decode cL_law 1682 = .ok (.aload_n 0, 1) := dk_42 (dk_at dksL_law_65 14 rfl rfl)
theorem dL_law_1683 : decode cL_law 1683 = .ok (.iload 5, 2) := dk_21 5 (dk_at dksL_law_65 15 rfl rfl)
theorem dL_law_1685 : decode cL_law 1685 = .ok (.iconst 2, 1) := dk_5 (dk_at dksL_law_65 17 rfl rfl)
theorem dL_law_1686 : decode cL_law 1686 = .ok (.iadd, 1) := dk_96 (dk_at dksL_law_65 18 rfl rfl)
theorem dL_law_1687 : decode cL_law 1687 = .ok (.iaload, 1) := dk_46 (dk_at dksL_law_65 19 rfl rfl)
theorem dL_law_1688 : decode cL_law 1688 = .ok (.invokevirtual 228, 3) := dk_182 0 228 (dk_at dksL_law_65 20 rfl rfl)
theorem dL_law_1691 : decode cL_law 1691 = .ok (.istore 7, 2) := dk_54 7 (dk_at dksL_law_66 0 rfl rfl)
theorem dL_law_1693 : decode cL_law 1693 = .ok (.aload_n 2, 1) := dk_44 (dk_at dksL_law_66 2 rfl rfl)
theorem dL_law_1694 : decode cL_law 1694 = .ok (.invokevirtual 140, 3) := dk_182 0 140 (dk_at dksL_law_66 3 rfl rfl)
theorem dL_law_1697 : decode cL_law 1697 = .ok (.iload 6, 2) := dk_21 6 (dk_at dksL_law_66 6 rfl rfl)
theorem dL_law_1699 : decode cL_law 1699 = .ok (.if_icmp .eq 5, 3) := dk_159 0 5 (dk_at dksL_law_66 8 rfl rfl)
theorem dL_law_1702 : decode cL_law 1702 = .ok (.iconst 0, 1) := dk_3 (dk_at dksL_law_66 11 rfl rfl)
theorem dL_law_1703 : decode cL_law 1703 = .ok (.ireturn, 1) := dk_172 (dk_at dksL_law_66 12 rfl rfl)
theorem dL_law_1704 : decode cL_law 1704 = .ok (.iload 6, 2) := dk_21 6 (dk_at dksL_law_66 13 rfl rfl)
theorem dL_law_1706 : decode cL_law 1706 = .ok (.ifCond .ne 15, 3) := dk_154 0 15 (dk_at dksL_law_66 15 rfl rfl)
theorem dL_law_1709 : decode cL_law 1709 = .ok (.aload_n 3, 1) := dk_45 (dk_at dksL_law_66 18 rfl rfl)
theorem dL_law_1710 : decode cL_law 1710 = .ok (.iconst 0, 1) := dk_3 (dk_at dksL_law_66 19 rfl rfl)
theorem dL_law_1711 : decode cL_law 1711 = .ok (.laload, 1) := dk_47 (dk_at dksL_law_66 20 rfl rfl)
theorem dL_law_1712 : decode cL_law 1712 = .ok (.iload 7, 2) := dk_21 7 (dk_at dksL_law_66 21 rfl rfl)
theorem dL_law_1714 : decode cL_law 1714 = .ok (.i2l, 1) := dk_133 (dk_at dksL_law_66 23 rfl rfl)
theorem dL_law_1715 : decode cL_law 1715 = .ok (.lcmp, 1) := dk_148 (dk_at dksL_law_67 0 rfl rfl)
theorem dL_law_1716 : decode cL_law 1716 = .ok (.ifCond .eq 5, 3) := dk_153 0 5 (dk_at dksL_law_67 1 rfl rfl)
theorem dL_law_1719 : decode cL_law 1719 = .ok (.iconst 0, 1) := dk_3 (dk_at dksL_law_67 4 rfl rfl)
theorem dL_law_1720 : decode cL_law 1720 = .ok (.ireturn, 1) := dk_172 (dk_at dksL_law_67 5 rfl rfl)
theorem dL_law_1721 : decode cL_law 1721 = .ok (.goto 604, 3) := dk_167 2 92 (dk_at dksL_law_67 6 rfl rfl)
theorem dL_law_1724 : decode cL_law 1724 = .ok (.aload_n 1, 1) := dk_43 (dk_at dksL_law_67 9 rfl rfl)
theorem dL_law_1725 : decode cL_law 1725 = .ok (.aload_n 0, 1) := dk_42 (dk_at dksL_law_67 10 rfl rfl)
theorem dL_law_1726 : decode cL_law 1726 = .ok (.iload 5, 2) := dk_21 5 (dk_at dksL_law_67 11 rfl rfl)
theorem dL_law_1728 : decode cL_law 1728 = .ok (.iconst 1, 1) := dk_4 (dk_at dksL_law_67 13 rfl rfl)
theorem dL_law_1729 : decode cL_law 1729 = .ok (.iadd, 1) := dk_96 (dk_at dksL_law_67 14 rfl rfl)
theorem dL_law_1730 : decode cL_law 1730 = .ok (.iaload, 1) := dk_46 (dk_at dksL_law_67 15 rfl rfl)
theorem dL_law_1731 : decode cL_law 1731 = .ok (.aload_n 0, 1) := dk_42 (dk_at dksL_law_67 16 rfl rfl)
theorem dL_law_1732 : decode cL_law 1732 = .ok (.iload 5, 2) := dk_21 5 (dk_at dksL_law_67 17 rfl rfl)
theorem dL_law_1734 : decode cL_law 1734 = .ok (.iconst 2, 1) := dk_5 (dk_at dksL_law_67 19 rfl rfl)
theorem dL_law_1735 : decode cL_law 1735 = .ok (.iadd, 1) := dk_96 (dk_at dksL_law_67 20 rfl rfl)
theorem dL_law_1736 : decode cL_law 1736 = .ok (.iaload, 1) := dk_46 (dk_at dksL_law_67 21 rfl rfl)
theorem dL_law_1737 : decode cL_law 1737 = .ok (.i2c, 1) := dk_146 (dk_at dksL_law_67 22 rfl rfl)
theorem dL_law_1738 : decode cL_law 1738 = .ok (.aload_n 3, 1) := dk_45 (dk_at dksL_law_67 23 rfl rfl)
theorem dL_law_1739 : decode cL_law 1739 = .ok (.invokestatic 229, 3) := dk_184 0 229 (dk_at dksL_law_68 0 rfl rfl)
theorem dL_law_1742 : decode cL_law 1742 = .ok (.istore 6, 2) := dk_54 6 (dk_at dksL_law_68 3 rfl rfl)
theorem dL_law_1744 : decode cL_law 1744 = .ok (.aload_n 2, 1) := dk_44 (dk_at dksL_law_68 5 rfl rfl)
theorem dL_law_1745 : decode cL_law 1745 = .ok (.aload_n 0, 1) := dk_42 (dk_at dksL_law_68 6 rfl rfl)
theorem dL_law_1746 : decode cL_law 1746 = .ok (.iload 5, 2) := dk_21 5 (dk_at dksL_law_68 7 rfl rfl)
theorem dL_law_1748 : decode cL_law 1748 = .ok (.iconst 1, 1) := dk_4 (dk_at dksL_law_68 9 rfl rfl)
theorem dL_law_1749 : decode cL_law 1749 = .ok (.iadd, 1) := dk_96 (dk_at dksL_law_68 10 rfl rfl)
theorem dL_law_1750 : decode cL_law 1750 = .ok (.iaload, 1) := dk_46 (dk_at dksL_law_68 11 rfl rfl)
theorem dL_law_1751 : decode cL_law 1751 = .ok (.aload_n 0, 1) := dk_42 (dk_at dksL_law_68 12 rfl rfl)
theorem dL_law_1752 : decode cL_law 1752 = .ok (.iload 5, 2) := dk_21 5 (dk_at dksL_law_68 13 rfl rfl)
theorem dL_law_1754 : decode cL_law 1754 = .ok (.iconst 2, 1) := dk_5 (dk_at dksL_law_68 15 rfl rfl)
theorem dL_law_1755 : decode cL_law 1755 = .ok (.iadd, 1) := dk_96 (dk_at dksL_law_68 16 rfl rfl)
theorem dL_law_1756 : decode cL_law 1756 = .ok (.iaload, 1) := dk_46 (dk_at dksL_law_68 17 rfl rfl)
theorem dL_law_1757 : decode cL_law 1757 = .ok (.i2c, 1) := dk_146 (dk_at dksL_law_68 18 rfl rfl)
theorem dL_law_1758 : decode cL_law 1758 = .ok (.invokevirtual 232, 3) := dk_182 0 232 (dk_at dksL_law_68 19 rfl rfl)
theorem dL_law_1761 : decode cL_law 1761 = .ok (.istore 7, 2) := dk_54 7 (dk_at dksL_law_68 22 rfl rfl)
theorem dL_law_1763 : decode cL_law 1763 = .ok (.aload_n 2, 1) := dk_44 (dk_at dksL_law_69 0 rfl rfl)
theorem dL_law_1764 : decode cL_law 1764 = .ok (.invokevirtual 140, 3) := dk_182 0 140 (dk_at dksL_law_69 1 rfl rfl)
theorem dL_law_1767 : decode cL_law 1767 = .ok (.iload 6, 2) := dk_21 6 (dk_at dksL_law_69 4 rfl rfl)
theorem dL_law_1769 : decode cL_law 1769 = .ok (.if_icmp .eq 5, 3) := dk_159 0 5 (dk_at dksL_law_69 6 rfl rfl)
theorem dL_law_1772 : decode cL_law 1772 = .ok (.iconst 0, 1) := dk_3 (dk_at dksL_law_69 9 rfl rfl)
theorem dL_law_1773 : decode cL_law 1773 = .ok (.ireturn, 1) := dk_172 (dk_at dksL_law_69 10 rfl rfl)
theorem dL_law_1774 : decode cL_law 1774 = .ok (.iload 6, 2) := dk_21 6 (dk_at dksL_law_69 11 rfl rfl)
theorem dL_law_1776 : decode cL_law 1776 = .ok (.ifCond .ne 15, 3) := dk_154 0 15 (dk_at dksL_law_69 13 rfl rfl)
theorem dL_law_1779 : decode cL_law 1779 = .ok (.aload_n 3, 1) := dk_45 (dk_at dksL_law_69 16 rfl rfl)
theorem dL_law_1780 : decode cL_law 1780 = .ok (.iconst 0, 1) := dk_3 (dk_at dksL_law_69 17 rfl rfl)
theorem dL_law_1781 : decode cL_law 1781 = .ok (.laload, 1) := dk_47 (dk_at dksL_law_69 18 rfl rfl)
theorem dL_law_1782 : decode cL_law 1782 = .ok (.iload 7, 2) := dk_21 7 (dk_at dksL_law_69 19 rfl rfl)
theorem dL_law_1784 : decode cL_law 1784 = .ok (.i2l, 1) := dk_133 (dk_at dksL_law_69 21 rfl rfl)
theorem dL_law_1785 : decode cL_law 1785 = .ok (.lcmp, 1) := dk_148 (dk_at dksL_law_69 22 rfl rfl)
theorem dL_law_1786 : decode cL_law 1786 = .ok (.ifCond .eq 5, 3) := dk_153 0 5 (dk_at dksL_law_70 0 rfl rfl)
theorem dL_law_1789 : decode cL_law 1789 = .ok (.iconst 0, 1) := dk_3 (dk_at dksL_law_70 3 rfl rfl)
theorem dL_law_1790 : decode cL_law 1790 = .ok (.ireturn, 1) := dk_172 (dk_at dksL_law_70 4 rfl rfl)
theorem dL_law_1791 : decode cL_law 1791 = .ok (.goto 534, 3) := dk_167 2 22 (dk_at dksL_law_70 5 rfl rfl)
theorem dL_law_1794 : decode cL_law 1794 = .ok (.aload_n 1, 1) := dk_43 (dk_at dksL_law_70 8 rfl rfl)
theorem dL_law_1795 : decode cL_law 1795 = .ok (.aload_n 0, 1) := dk_42 (dk_at dksL_law_70 9 rfl rfl)
theorem dL_law_1796 : decode cL_law 1796 = .ok (.iload 5, 2) := dk_21 5 (dk_at dksL_law_70 10 rfl rfl)
theorem dL_law_1798 : decode cL_law 1798 = .ok (.iconst 1, 1) := dk_4 (dk_at dksL_law_70 12 rfl rfl)
theorem dL_law_1799 : decode cL_law 1799 = .ok (.iadd, 1) := dk_96 (dk_at dksL_law_70 13 rfl rfl)
theorem dL_law_1800 : decode cL_law 1800 = .ok (.iaload, 1) := dk_46 (dk_at dksL_law_70 14 rfl rfl)
theorem dL_law_1801 : decode cL_law 1801 = .ok (.aload_n 3, 1) := dk_45 (dk_at dksL_law_70 15 rfl rfl)
theorem dL_law_1802 : decode cL_law 1802 = .ok (.invokestatic 233, 3) := dk_184 0 233 (dk_at dksL_law_70 16 rfl rfl)
theorem dL_law_1805 : decode cL_law 1805 = .ok (.istore 6, 2) := dk_54 6 (dk_at dksL_law_70 19 rfl rfl)
theorem dL_law_1807 : decode cL_law 1807 = .ok (.aload_n 2, 1) := dk_44 (dk_at dksL_law_70 21 rfl rfl)
theorem dL_law_1808 : decode cL_law 1808 = .ok (.aload_n 0, 1) := dk_42 (dk_at dksL_law_70 22 rfl rfl)
theorem dL_law_1809 : decode cL_law 1809 = .ok (.iload 5, 2) := dk_21 5 (dk_at dksL_law_71 0 rfl rfl)
theorem dL_law_1811 : decode cL_law 1811 = .ok (.iconst 1, 1) := dk_4 (dk_at dksL_law_71 2 rfl rfl)
theorem dL_law_1812 : decode cL_law 1812 = .ok (.iadd, 1) := dk_96 (dk_at dksL_law_71 3 rfl rfl)
theorem dL_law_1813 : decode cL_law 1813 = .ok (.iaload, 1) := dk_46 (dk_at dksL_law_71 4 rfl rfl)
theorem dL_law_1814 : decode cL_law 1814 = .ok (.invokevirtual 235, 3) := dk_182 0 235 (dk_at dksL_law_71 5 rfl rfl)
theorem dL_law_1817 : decode cL_law 1817 = .ok (.istore 7, 2) := dk_54 7 (dk_at dksL_law_71 8 rfl rfl)
theorem dL_law_1819 : decode cL_law 1819 = .ok (.aload_n 2, 1) := dk_44 (dk_at dksL_law_71 10 rfl rfl)
theorem dL_law_1820 : decode cL_law 1820 = .ok (.invokevirtual 140, 3) := dk_182 0 140 (dk_at dksL_law_71 11 rfl rfl)
theorem dL_law_1823 : decode cL_law 1823 = .ok (.iload 6, 2) := dk_21 6 (dk_at dksL_law_71 14 rfl rfl)
theorem dL_law_1825 : decode cL_law 1825 = .ok (.if_icmp .eq 5, 3) := dk_159 0 5 (dk_at dksL_law_71 16 rfl rfl)
theorem dL_law_1828 : decode cL_law 1828 = .ok (.iconst 0, 1) := dk_3 (dk_at dksL_law_71 19 rfl rfl)
theorem dL_law_1829 : decode cL_law 1829 = .ok (.ireturn, 1) := dk_172 (dk_at dksL_law_71 20 rfl rfl)
theorem dL_law_1830 : decode cL_law 1830 = .ok (.iload 6, 2) := dk_21 6 (dk_at dksL_law_71 21 rfl rfl)
theorem dL_law_1832 : decode cL_law 1832 = .ok (.ifCond .ne 15, 3) := dk_154 0 15 (dk_at dksL_law_72 0 rfl rfl)
theorem dL_law_1835 : decode cL_law 1835 = .ok (.aload_n 3, 1) := dk_45 (dk_at dksL_law_72 3 rfl rfl)
theorem dL_law_1836 : decode cL_law 1836 = .ok (.iconst 0, 1) := dk_3 (dk_at dksL_law_72 4 rfl rfl)
theorem dL_law_1837 : decode cL_law 1837 = .ok (.laload, 1) := dk_47 (dk_at dksL_law_72 5 rfl rfl)
theorem dL_law_1838 : decode cL_law 1838 = .ok (.iload 7, 2) := dk_21 7 (dk_at dksL_law_72 6 rfl rfl)
theorem dL_law_1840 : decode cL_law 1840 = .ok (.i2l, 1) := dk_133 (dk_at dksL_law_72 8 rfl rfl)
theorem dL_law_1841 : decode cL_law 1841 = .ok (.lcmp, 1) := dk_148 (dk_at dksL_law_72 9 rfl rfl)
theorem dL_law_1842 : decode cL_law 1842 = .ok (.ifCond .eq 5, 3) := dk_153 0 5 (dk_at dksL_law_72 10 rfl rfl)
theorem dL_law_1845 : decode cL_law 1845 = .ok (.iconst 0, 1) := dk_3 (dk_at dksL_law_72 13 rfl rfl)
theorem dL_law_1846 : decode cL_law 1846 = .ok (.ireturn, 1) := dk_172 (dk_at dksL_law_72 14 rfl rfl)
theorem dL_law_1847 : decode cL_law 1847 = .ok (.goto 478, 3) := dk_167 1 222 (dk_at dksL_law_72 15 rfl rfl)
theorem dL_law_1850 : decode cL_law 1850 = .ok (.aload_n 1, 1) := dk_43 (dk_at dksL_law_72 18 rfl rfl)
theorem dL_law_1851 : decode cL_law 1851 = .ok (.aload_n 0, 1) := dk_42 (dk_at dksL_law_72 19 rfl rfl)
theorem dL_law_1852 : decode cL_law 1852 = .ok (.iload 5, 2) := dk_21 5 (dk_at dksL_law_72 20 rfl rfl)
theorem dL_law_1854 : decode cL_law 1854 = .ok (.iconst 1, 1) := dk_4 (dk_at dksL_law_72 22 rfl rfl)
theorem dL_law_1855 : decode cL_law 1855 = .ok (.iadd, 1) := dk_96 (dk_at dksL_law_72 23 rfl rfl)
theorem dL_law_1856 : decode cL_law 1856 = .ok (.iaload, 1) := dk_46 (dk_at dksL_law_73 0 rfl rfl)
theorem dL_law_1857 : decode cL_law 1857 = .ok (.aload_n 3, 1) := dk_45 (dk_at dksL_law_73 1 rfl rfl)
theorem dL_law_1858 : decode cL_law 1858 = .ok (.invokestatic 236, 3) := dk_184 0 236 (dk_at dksL_law_73 2 rfl rfl)
theorem dL_law_1861 : decode cL_law 1861 = .ok (.istore 6, 2) := dk_54 6 (dk_at dksL_law_73 5 rfl rfl)
theorem dL_law_1863 : decode cL_law 1863 = .ok (.aload_n 2, 1) := dk_44 (dk_at dksL_law_73 7 rfl rfl)
theorem dL_law_1864 : decode cL_law 1864 = .ok (.aload_n 0, 1) := dk_42 (dk_at dksL_law_73 8 rfl rfl)
theorem dL_law_1865 : decode cL_law 1865 = .ok (.iload 5, 2) := dk_21 5 (dk_at dksL_law_73 9 rfl rfl)
theorem dL_law_1867 : decode cL_law 1867 = .ok (.iconst 1, 1) := dk_4 (dk_at dksL_law_73 11 rfl rfl)
theorem dL_law_1868 : decode cL_law 1868 = .ok (.iadd, 1) := dk_96 (dk_at dksL_law_73 12 rfl rfl)
theorem dL_law_1869 : decode cL_law 1869 = .ok (.iaload, 1) := dk_46 (dk_at dksL_law_73 13 rfl rfl)
theorem dL_law_1870 : decode cL_law 1870 = .ok (.invokevirtual 238, 3) := dk_182 0 238 (dk_at dksL_law_73 14 rfl rfl)
theorem dL_law_1873 : decode cL_law 1873 = .ok (.istore 7, 2) := dk_54 7 (dk_at dksL_law_73 17 rfl rfl)
theorem dL_law_1875 : decode cL_law 1875 = .ok (.aload_n 2, 1) := dk_44 (dk_at dksL_law_73 19 rfl rfl)
theorem dL_law_1876 : decode cL_law 1876 = .ok (.invokevirtual 140, 3) := dk_182 0 140 (dk_at dksL_law_73 20 rfl rfl)
theorem dL_law_1879 : decode cL_law 1879 = .ok (.iload 6, 2) := dk_21 6 (dk_at dksL_law_74 0 rfl rfl)
theorem dL_law_1881 : decode cL_law 1881 = .ok (.if_icmp .eq 5, 3) := dk_159 0 5 (dk_at dksL_law_74 2 rfl rfl)
theorem dL_law_1884 : decode cL_law 1884 = .ok (.iconst 0, 1) := dk_3 (dk_at dksL_law_74 5 rfl rfl)
theorem dL_law_1885 : decode cL_law 1885 = .ok (.ireturn, 1) := dk_172 (dk_at dksL_law_74 6 rfl rfl)
theorem dL_law_1886 : decode cL_law 1886 = .ok (.iload 6, 2) := dk_21 6 (dk_at dksL_law_74 7 rfl rfl)
theorem dL_law_1888 : decode cL_law 1888 = .ok (.ifCond .ne 22, 3) := dk_154 0 22 (dk_at dksL_law_74 9 rfl rfl)
theorem dL_law_1891 : decode cL_law 1891 = .ok (.aload_n 3, 1) := dk_45 (dk_at dksL_law_74 12 rfl rfl)
theorem dL_law_1892 : decode cL_law 1892 = .ok (.iconst 0, 1) := dk_3 (dk_at dksL_law_74 13 rfl rfl)
theorem dL_law_1893 : decode cL_law 1893 = .ok (.laload, 1) := dk_47 (dk_at dksL_law_74 14 rfl rfl)
theorem dL_law_1894 : decode cL_law 1894 = .ok (.iload 7, 2) := dk_21 7 (dk_at dksL_law_74 15 rfl rfl)
theorem dL_law_1896 : decode cL_law 1896 = .ok (.ifCond .eq 7, 3) := dk_153 0 7 (dk_at dksL_law_74 17 rfl rfl)
theorem dL_law_1899 : decode cL_law 1899 = .ok (.lconst 1, 1) := dk_10 (dk_at dksL_law_74 20 rfl rfl)
theorem dL_law_1900 : decode cL_law 1900 = .ok (.goto 4, 3) := dk_167 0 4 (dk_at dksL_law_74 21 rfl rfl)
theorem dL_law_1903 : decode cL_law 1903 = .ok (.lconst 0, 1) := dk_9 (dk_at dksL_law_75 0 rfl rfl)
theorem dL_law_1904 : decode cL_law 1904 = .ok (.lcmp, 1) := dk_148 (dk_at dksL_law_75 1 rfl rfl)
theorem dL_law_1905 : decode cL_law 1905 = .ok (.ifCond .eq 5, 3) := dk_153 0 5 (dk_at dksL_law_75 2 rfl rfl)
theorem dL_law_1908 : decode cL_law 1908 = .ok (.iconst 0, 1) := dk_3 (dk_at dksL_law_75 5 rfl rfl)
theorem dL_law_1909 : decode cL_law 1909 = .ok (.ireturn, 1) := dk_172 (dk_at dksL_law_75 6 rfl rfl)
theorem dL_law_1910 : decode cL_law 1910 = .ok (.goto 415, 3) := dk_167 1 159 (dk_at dksL_law_75 7 rfl rfl)
theorem dL_law_1913 : decode cL_law 1913 = .ok (.aload_n 1, 1) := dk_43 (dk_at dksL_law_75 10 rfl rfl)
theorem dL_law_1914 : decode cL_law 1914 = .ok (.aload_n 0, 1) := dk_42 (dk_at dksL_law_75 11 rfl rfl)
theorem dL_law_1915 : decode cL_law 1915 = .ok (.iload 5, 2) := dk_21 5 (dk_at dksL_law_75 12 rfl rfl)
theorem dL_law_1917 : decode cL_law 1917 = .ok (.iconst 1, 1) := dk_4 (dk_at dksL_law_75 14 rfl rfl)
theorem dL_law_1918 : decode cL_law 1918 = .ok (.iadd, 1) := dk_96 (dk_at dksL_law_75 15 rfl rfl)
theorem dL_law_1919 : decode cL_law 1919 = .ok (.iaload, 1) := dk_46 (dk_at dksL_law_75 16 rfl rfl)
theorem dL_law_1920 : decode cL_law 1920 = .ok (.aload_n 3, 1) := dk_45 (dk_at dksL_law_75 17 rfl rfl)
theorem dL_law_1921 : decode cL_law 1921 = .ok (.invokestatic 239, 3) := dk_184 0 239 (dk_at dksL_law_75 18 rfl rfl)
theorem dL_law_1924 : decode cL_law 1924 = .ok (.istore 6, 2) := dk_54 6 (dk_at dksL_law_75 21 rfl rfl)
theorem dL_law_1926 : decode cL_law 1926 = .ok (.aload_n 2, 1) := dk_44 (dk_at dksL_law_75 23 rfl rfl)
theorem dL_law_1927 : decode cL_law 1927 = .ok (.aload_n 0, 1) := dk_42 (dk_at dksL_law_76 0 rfl rfl)
theorem dL_law_1928 : decode cL_law 1928 = .ok (.iload 5, 2) := dk_21 5 (dk_at dksL_law_76 1 rfl rfl)
theorem dL_law_1930 : decode cL_law 1930 = .ok (.iconst 1, 1) := dk_4 (dk_at dksL_law_76 3 rfl rfl)
theorem dL_law_1931 : decode cL_law 1931 = .ok (.iadd, 1) := dk_96 (dk_at dksL_law_76 4 rfl rfl)
theorem dL_law_1932 : decode cL_law 1932 = .ok (.iaload, 1) := dk_46 (dk_at dksL_law_76 5 rfl rfl)
theorem dL_law_1933 : decode cL_law 1933 = .ok (.invokevirtual 241, 3) := dk_182 0 241 (dk_at dksL_law_76 6 rfl rfl)
theorem dL_law_1936 : decode cL_law 1936 = .ok (.istore 7, 2) := dk_54 7 (dk_at dksL_law_76 9 rfl rfl)
theorem dL_law_1938 : decode cL_law 1938 = .ok (.aload_n 2, 1) := dk_44 (dk_at dksL_law_76 11 rfl rfl)
theorem dL_law_1939 : decode cL_law 1939 = .ok (.invokevirtual 140, 3) := dk_182 0 140 (dk_at dksL_law_76 12 rfl rfl)
theorem dL_law_1942 : decode cL_law 1942 = .ok (.iload 6, 2) := dk_21 6 (dk_at dksL_law_76 15 rfl rfl)
theorem dL_law_1944 : decode cL_law 1944 = .ok (.if_icmp .eq 5, 3) := dk_159 0 5 (dk_at dksL_law_76 17 rfl rfl)
theorem dL_law_1947 : decode cL_law 1947 = .ok (.iconst 0, 1) := dk_3 (dk_at dksL_law_76 20 rfl rfl)
theorem dL_law_1948 : decode cL_law 1948 = .ok (.ireturn, 1) := dk_172 (dk_at dksL_law_76 21 rfl rfl)
theorem dL_law_1949 : decode cL_law 1949 = .ok (.iload 6, 2) := dk_21 6 (dk_at dksL_law_76 22 rfl rfl)
theorem dL_law_1951 : decode cL_law 1951 = .ok (.ifCond .ne 22, 3) := dk_154 0 22 (dk_at dksL_law_77 0 rfl rfl)
theorem dL_law_1954 : decode cL_law 1954 = .ok (.aload_n 3, 1) := dk_45 (dk_at dksL_law_77 3 rfl rfl)
theorem dL_law_1955 : decode cL_law 1955 = .ok (.iconst 0, 1) := dk_3 (dk_at dksL_law_77 4 rfl rfl)
theorem dL_law_1956 : decode cL_law 1956 = .ok (.laload, 1) := dk_47 (dk_at dksL_law_77 5 rfl rfl)
theorem dL_law_1957 : decode cL_law 1957 = .ok (.iload 7, 2) := dk_21 7 (dk_at dksL_law_77 6 rfl rfl)
theorem dL_law_1959 : decode cL_law 1959 = .ok (.ifCond .eq 7, 3) := dk_153 0 7 (dk_at dksL_law_77 8 rfl rfl)
theorem dL_law_1962 : decode cL_law 1962 = .ok (.lconst 1, 1) := dk_10 (dk_at dksL_law_77 11 rfl rfl)
theorem dL_law_1963 : decode cL_law 1963 = .ok (.goto 4, 3) := dk_167 0 4 (dk_at dksL_law_77 12 rfl rfl)
theorem dL_law_1966 : decode cL_law 1966 = .ok (.lconst 0, 1) := dk_9 (dk_at dksL_law_77 15 rfl rfl)
theorem dL_law_1967 : decode cL_law 1967 = .ok (.lcmp, 1) := dk_148 (dk_at dksL_law_77 16 rfl rfl)
theorem dL_law_1968 : decode cL_law 1968 = .ok (.ifCond .eq 5, 3) := dk_153 0 5 (dk_at dksL_law_77 17 rfl rfl)
theorem dL_law_1971 : decode cL_law 1971 = .ok (.iconst 0, 1) := dk_3 (dk_at dksL_law_77 20 rfl rfl)
theorem dL_law_1972 : decode cL_law 1972 = .ok (.ireturn, 1) := dk_172 (dk_at dksL_law_77 21 rfl rfl)
theorem dL_law_1973 : decode cL_law 1973 = .ok (.goto 352, 3) := dk_167 1 96 (dk_at dksL_law_78 0 rfl rfl)
theorem dL_law_1976 : decode cL_law 1976 = .ok (.aload_n 1, 1) := dk_43 (dk_at dksL_law_78 3 rfl rfl)
theorem dL_law_1977 : decode cL_law 1977 = .ok (.invokevirtual 242, 3) := dk_182 0 242 (dk_at dksL_law_78 4 rfl rfl)
theorem dL_law_1980 : decode cL_law 1980 = .ok (.aload_n 2, 1) := dk_44 (dk_at dksL_law_78 7 rfl rfl)
theorem dL_law_1981 : decode cL_law 1981 = .ok (.invokevirtual 245, 3) := dk_182 0 245 (dk_at dksL_law_78 8 rfl rfl)
theorem dL_law_1984 : decode cL_law 1984 = .ok (.if_icmp .eq 341, 3) := dk_159 1 85 (dk_at dksL_law_78 11 rfl rfl)
theorem dL_law_1987 : decode cL_law 1987 = .ok (.iconst 0, 1) := dk_3 (dk_at dksL_law_78 14 rfl rfl)
theorem dL_law_1988 : decode cL_law 1988 = .ok (.ireturn, 1) := dk_172 (dk_at dksL_law_78 15 rfl rfl)
theorem dL_law_1989 : decode cL_law 1989 = .ok (.aload_n 1, 1) := dk_43 (dk_at dksL_law_78 16 rfl rfl)
theorem dL_law_1990 : decode cL_law 1990 = .ok (.aload_n 0, 1) := dk_42 (dk_at dksL_law_78 17 rfl rfl)
theorem dL_law_1991 : decode cL_law 1991 = .ok (.iload 5, 2) := dk_21 5 (dk_at dksL_law_78 18 rfl rfl)
theorem dL_law_1993 : decode cL_law 1993 = .ok (.iconst 1, 1) := dk_4 (dk_at dksL_law_78 20 rfl rfl)
theorem dL_law_1994 : decode cL_law 1994 = .ok (.iadd, 1) := dk_96 (dk_at dksL_law_78 21 rfl rfl)
theorem dL_law_1995 : decode cL_law 1995 = .ok (.iaload, 1) := dk_46 (dk_at dksL_law_78 22 rfl rfl)
theorem dL_law_1996 : decode cL_law 1996 = .ok (.aload_n 0, 1) := dk_42 (dk_at dksL_law_78 23 rfl rfl)
theorem dL_law_1997 : decode cL_law 1997 = .ok (.iload 5, 2) := dk_21 5 (dk_at dksL_law_79 0 rfl rfl)
theorem dL_law_1999 : decode cL_law 1999 = .ok (.iconst 2, 1) := dk_5 (dk_at dksL_law_79 2 rfl rfl)
theorem dL_law_2000 : decode cL_law 2000 = .ok (.iadd, 1) := dk_96 (dk_at dksL_law_79 3 rfl rfl)
theorem dL_law_2001 : decode cL_law 2001 = .ok (.iaload, 1) := dk_46 (dk_at dksL_law_79 4 rfl rfl)
theorem dL_law_2002 : decode cL_law 2002 = .ok (.aload_n 0, 1) := dk_42 (dk_at dksL_law_79 5 rfl rfl)
theorem dL_law_2003 : decode cL_law 2003 = .ok (.iload 5, 2) := dk_21 5 (dk_at dksL_law_79 6 rfl rfl)
theorem dL_law_2005 : decode cL_law 2005 = .ok (.iconst 3, 1) := dk_6 (dk_at dksL_law_79 8 rfl rfl)
theorem dL_law_2006 : decode cL_law 2006 = .ok (.iadd, 1) := dk_96 (dk_at dksL_law_79 9 rfl rfl)
theorem dL_law_2007 : decode cL_law 2007 = .ok (.iaload, 1) := dk_46 (dk_at dksL_law_79 10 rfl rfl)
theorem dL_law_2008 : decode cL_law 2008 = .ok (.ifCond .eq 7, 3) := dk_153 0 7 (dk_at dksL_law_79 11 rfl rfl)
theorem dL_law_2011 : decode cL_law 2011 = .ok (.iconst 1, 1) := dk_4 (dk_at dksL_law_79 14 rfl rfl)
theorem dL_law_2012 : decode cL_law 2012 = .ok (.goto 4, 3) := dk_167 0 4 (dk_at dksL_law_79 15 rfl rfl)
theorem dL_law_2015 : decode cL_law 2015 = .ok (.iconst 0, 1) := dk_3 (dk_at dksL_law_79 18 rfl rfl)
theorem dL_law_2016 : decode cL_law 2016 = .ok (.aload_n 3, 1) := dk_45 (dk_at dksL_law_79 19 rfl rfl)
theorem dL_law_2017 : decode cL_law 2017 = .ok (.invokestatic 246, 3) := dk_184 0 246 (dk_at dksL_law_79 20 rfl rfl)
theorem dL_law_2020 : decode cL_law 2020 = .ok (.istore 6, 2) := dk_54 6 (dk_at dksL_law_80 0 rfl rfl)
theorem dL_law_2022 : decode cL_law 2022 = .ok (.aload_n 2, 1) := dk_44 (dk_at dksL_law_80 2 rfl rfl)
theorem dL_law_2023 : decode cL_law 2023 = .ok (.aload_n 0, 1) := dk_42 (dk_at dksL_law_80 3 rfl rfl)
theorem dL_law_2024 : decode cL_law 2024 = .ok (.iload 5, 2) := dk_21 5 (dk_at dksL_law_80 4 rfl rfl)
theorem dL_law_2026 : decode cL_law 2026 = .ok (.iconst 1, 1) := dk_4 (dk_at dksL_law_80 6 rfl rfl)
theorem dL_law_2027 : decode cL_law 2027 = .ok (.iadd, 1) := dk_96 (dk_at dksL_law_80 7 rfl rfl)
theorem dL_law_2028 : decode cL_law 2028 = .ok (.iaload, 1) := dk_46 (dk_at dksL_law_80 8 rfl rfl)
theorem dL_law_2029 : decode cL_law 2029 = .ok (.aload_n 0, 1) := dk_42 (dk_at dksL_law_80 9 rfl rfl)
theorem dL_law_2030 : decode cL_law 2030 = .ok (.iload 5, 2) := dk_21 5 (dk_at dksL_law_80 10 rfl rfl)
theorem dL_law_2032 : decode cL_law 2032 = .ok (.iconst 2, 1) := dk_5 (dk_at dksL_law_80 12 rfl rfl)
theorem dL_law_2033 : decode cL_law 2033 = .ok (.iadd, 1) := dk_96 (dk_at dksL_law_80 13 rfl rfl)
theorem dL_law_2034 : decode cL_law 2034 = .ok (.iaload, 1) := dk_46 (dk_at dksL_law_80 14 rfl rfl)
theorem dL_law_2035 : decode cL_law 2035 = .ok (.aload_n 0, 1) := dk_42 (dk_at dksL_law_80 15 rfl rfl)
theorem dL_law_2036 : decode cL_law 2036 = .ok (.iload 5, 2) := dk_21 5 (dk_at dksL_law_80 16 rfl rfl)
theorem dL_law_2038 : decode cL_law 2038 = .ok (.iconst 3, 1) := dk_6 (dk_at dksL_law_80 18 rfl rfl)
theorem dL_law_2039 : decode cL_law 2039 = .ok (.iadd, 1) := dk_96 (dk_at dksL_law_80 19 rfl rfl)
theorem dL_law_2040 : decode cL_law 2040 = .ok (.iaload, 1) := dk_46 (dk_at dksL_law_80 20 rfl rfl)
theorem dL_law_2041 : decode cL_law 2041 = .ok (.ifCond .eq 7, 3) := dk_153 0 7 (dk_at dksL_law_80 21 rfl rfl)
theorem dL_law_2044 : decode cL_law 2044 = .ok (.iconst 1, 1) := dk_4 (dk_at dksL_law_81 0 rfl rfl)
theorem dL_law_2045 : decode cL_law 2045 = .ok (.goto 4, 3) := dk_167 0 4 (dk_at dksL_law_81 1 rfl rfl)
theorem dL_law_2048 : decode cL_law 2048 = .ok (.iconst 0, 1) := dk_3 (dk_at dksL_law_81 4 rfl rfl)
theorem dL_law_2049 : decode cL_law 2049 = .ok (.invokevirtual 249, 3) := dk_182 0 249 (dk_at dksL_law_81 5 rfl rfl)
theorem dL_law_2052 : decode cL_law 2052 = .ok (.istore 7, 2) := dk_54 7 (dk_at dksL_law_81 8 rfl rfl)
theorem dL_law_2054 : decode cL_law 2054 = .ok (.aload_n 2, 1) := dk_44 (dk_at dksL_law_81 10 rfl rfl)
theorem dL_law_2055 : decode cL_law 2055 = .ok (.invokevirtual 140, 3) := dk_182 0 140 (dk_at dksL_law_81 11 rfl rfl)
theorem dL_law_2058 : decode cL_law 2058 = .ok (.iload 6, 2) := dk_21 6 (dk_at dksL_law_81 14 rfl rfl)
theorem dL_law_2060 : decode cL_law 2060 = .ok (.if_icmp .eq 5, 3) := dk_159 0 5 (dk_at dksL_law_81 16 rfl rfl)
theorem dL_law_2063 : decode cL_law 2063 = .ok (.iconst 0, 1) := dk_3 (dk_at dksL_law_81 19 rfl rfl)
theorem dL_law_2064 : decode cL_law 2064 = .ok (.ireturn, 1) := dk_172 (dk_at dksL_law_81 20 rfl rfl)
theorem dL_law_2065 : decode cL_law 2065 = .ok (.iload 6, 2) := dk_21 6 (dk_at dksL_law_81 21 rfl rfl)
theorem dL_law_2067 : decode cL_law 2067 = .ok (.ifCond .ne 22, 3) := dk_154 0 22 (dk_at dksL_law_82 0 rfl rfl)
theorem dL_law_2070 : decode cL_law 2070 = .ok (.aload_n 3, 1) := dk_45 (dk_at dksL_law_82 3 rfl rfl)
theorem dL_law_2071 : decode cL_law 2071 = .ok (.iconst 0, 1) := dk_3 (dk_at dksL_law_82 4 rfl rfl)
theorem dL_law_2072 : decode cL_law 2072 = .ok (.laload, 1) := dk_47 (dk_at dksL_law_82 5 rfl rfl)
theorem dL_law_2073 : decode cL_law 2073 = .ok (.iload 7, 2) := dk_21 7 (dk_at dksL_law_82 6 rfl rfl)
theorem dL_law_2075 : decode cL_law 2075 = .ok (.ifCond .eq 7, 3) := dk_153 0 7 (dk_at dksL_law_82 8 rfl rfl)
theorem dL_law_2078 : decode cL_law 2078 = .ok (.lconst 1, 1) := dk_10 (dk_at dksL_law_82 11 rfl rfl)
theorem dL_law_2079 : decode cL_law 2079 = .ok (.goto 4, 3) := dk_167 0 4 (dk_at dksL_law_82 12 rfl rfl)
theorem dL_law_2082 : decode cL_law 2082 = .ok (.lconst 0, 1) := dk_9 (dk_at dksL_law_82 15 rfl rfl)
theorem dL_law_2083 : decode cL_law 2083 = .ok (.lcmp, 1) := dk_148 (dk_at dksL_law_82 16 rfl rfl)
theorem dL_law_2084 : decode cL_law 2084 = .ok (.ifCond .eq 5, 3) := dk_153 0 5 (dk_at dksL_law_82 17 rfl rfl)
theorem dL_law_2087 : decode cL_law 2087 = .ok (.iconst 0, 1) := dk_3 (dk_at dksL_law_82 20 rfl rfl)
theorem dL_law_2088 : decode cL_law 2088 = .ok (.ireturn, 1) := dk_172 (dk_at dksL_law_82 21 rfl rfl)
theorem dL_law_2089 : decode cL_law 2089 = .ok (.goto 236, 3) := dk_167 0 236 (dk_at dksL_law_83 0 rfl rfl)
theorem dL_law_2092 : decode cL_law 2092 = .ok (.aload_n 1, 1) := dk_43 (dk_at dksL_law_83 3 rfl rfl)
theorem dL_law_2093 : decode cL_law 2093 = .ok (.aload_n 0, 1) := dk_42 (dk_at dksL_law_83 4 rfl rfl)
theorem dL_law_2094 : decode cL_law 2094 = .ok (.iload 5, 2) := dk_21 5 (dk_at dksL_law_83 5 rfl rfl)
theorem dL_law_2096 : decode cL_law 2096 = .ok (.iconst 1, 1) := dk_4 (dk_at dksL_law_83 7 rfl rfl)
theorem dL_law_2097 : decode cL_law 2097 = .ok (.iadd, 1) := dk_96 (dk_at dksL_law_83 8 rfl rfl)
theorem dL_law_2098 : decode cL_law 2098 = .ok (.iaload, 1) := dk_46 (dk_at dksL_law_83 9 rfl rfl)
theorem dL_law_2099 : decode cL_law 2099 = .ok (.aload_n 0, 1) := dk_42 (dk_at dksL_law_83 10 rfl rfl)
theorem dL_law_2100 : decode cL_law 2100 = .ok (.iload 5, 2) := dk_21 5 (dk_at dksL_law_83 11 rfl rfl)
theorem dL_law_2102 : decode cL_law 2102 = .ok (.iconst 2, 1) := dk_5 (dk_at dksL_law_83 13 rfl rfl)
theorem dL_law_2103 : decode cL_law 2103 = .ok (.iadd, 1) := dk_96 (dk_at dksL_law_83 14 rfl rfl)
theorem dL_law_2104 : decode cL_law 2104 = .ok (.iaload, 1) := dk_46 (dk_at dksL_law_83 15 rfl rfl)
theorem dL_law_2105 : decode cL_law 2105 = .ok (.aload_n 3, 1) := dk_45 (dk_at dksL_law_83 16 rfl rfl)
theorem dL_law_2106 : decode cL_law 2106 = .ok (.invokestatic 250, 3) := dk_184 0 250 (dk_at dksL_law_83 17 rfl rfl)
theorem dL_law_2109 : decode cL_law 2109 = .ok (.istore 6, 2) := dk_54 6 (dk_at dksL_law_83 20 rfl rfl)
theorem dL_law_2111 : decode cL_law 2111 = .ok (.aload_n 2, 1) := dk_44 (dk_at dksL_law_83 22 rfl rfl)
theorem dL_law_2112 : decode cL_law 2112 = .ok (.aload_n 0, 1) := dk_42 (dk_at dksL_law_83 23 rfl rfl)
theorem dL_law_2113 : decode cL_law 2113 = .ok (.iload 5, 2) := dk_21 5 (dk_at dksL_law_84 0 rfl rfl)
theorem dL_law_2115 : decode cL_law 2115 = .ok (.iconst 1, 1) := dk_4 (dk_at dksL_law_84 2 rfl rfl)
theorem dL_law_2116 : decode cL_law 2116 = .ok (.iadd, 1) := dk_96 (dk_at dksL_law_84 3 rfl rfl)
theorem dL_law_2117 : decode cL_law 2117 = .ok (.iaload, 1) := dk_46 (dk_at dksL_law_84 4 rfl rfl)
theorem dL_law_2118 : decode cL_law 2118 = .ok (.aload_n 0, 1) := dk_42 (dk_at dksL_law_84 5 rfl rfl)
theorem dL_law_2119 : decode cL_law 2119 = .ok (.iload 5, 2) := dk_21 5 (dk_at dksL_law_84 6 rfl rfl)
theorem dL_law_2121 : decode cL_law 2121 = .ok (.iconst 2, 1) := dk_5 (dk_at dksL_law_84 8 rfl rfl)
theorem dL_law_2122 : decode cL_law 2122 = .ok (.iadd, 1) := dk_96 (dk_at dksL_law_84 9 rfl rfl)
theorem dL_law_2123 : decode cL_law 2123 = .ok (.iaload, 1) := dk_46 (dk_at dksL_law_84 10 rfl rfl)
theorem dL_law_2124 : decode cL_law 2124 = .ok (.invokevirtual 252, 3) := dk_182 0 252 (dk_at dksL_law_84 11 rfl rfl)
theorem dL_law_2127 : decode cL_law 2127 = .ok (.istore 7, 2) := dk_54 7 (dk_at dksL_law_84 14 rfl rfl)
theorem dL_law_2129 : decode cL_law 2129 = .ok (.aload_n 2, 1) := dk_44 (dk_at dksL_law_84 16 rfl rfl)
theorem dL_law_2130 : decode cL_law 2130 = .ok (.invokevirtual 140, 3) := dk_182 0 140 (dk_at dksL_law_84 17 rfl rfl)
theorem dL_law_2133 : decode cL_law 2133 = .ok (.iload 6, 2) := dk_21 6 (dk_at dksL_law_84 20 rfl rfl)
theorem dL_law_2135 : decode cL_law 2135 = .ok (.if_icmp .eq 5, 3) := dk_159 0 5 (dk_at dksL_law_85 0 rfl rfl)
theorem dL_law_2138 : decode cL_law 2138 = .ok (.iconst 0, 1) := dk_3 (dk_at dksL_law_85 3 rfl rfl)
theorem dL_law_2139 : decode cL_law 2139 = .ok (.ireturn, 1) := dk_172 (dk_at dksL_law_85 4 rfl rfl)
theorem dL_law_2140 : decode cL_law 2140 = .ok (.iload 6, 2) := dk_21 6 (dk_at dksL_law_85 5 rfl rfl)
theorem dL_law_2142 : decode cL_law 2142 = .ok (.ifCond .ne 22, 3) := dk_154 0 22 (dk_at dksL_law_85 7 rfl rfl)
theorem dL_law_2145 : decode cL_law 2145 = .ok (.aload_n 3, 1) := dk_45 (dk_at dksL_law_85 10 rfl rfl)
theorem dL_law_2146 : decode cL_law 2146 = .ok (.iconst 0, 1) := dk_3 (dk_at dksL_law_85 11 rfl rfl)
theorem dL_law_2147 : decode cL_law 2147 = .ok (.laload, 1) := dk_47 (dk_at dksL_law_85 12 rfl rfl)
theorem dL_law_2148 : decode cL_law 2148 = .ok (.iload 7, 2) := dk_21 7 (dk_at dksL_law_85 13 rfl rfl)
theorem dL_law_2150 : decode cL_law 2150 = .ok (.ifCond .eq 7, 3) := dk_153 0 7 (dk_at dksL_law_85 15 rfl rfl)
theorem dL_law_2153 : decode cL_law 2153 = .ok (.lconst 1, 1) := dk_10 (dk_at dksL_law_85 18 rfl rfl)
theorem dL_law_2154 : decode cL_law 2154 = .ok (.goto 4, 3) := dk_167 0 4 (dk_at dksL_law_85 19 rfl rfl)
theorem dL_law_2157 : decode cL_law 2157 = .ok (.lconst 0, 1) := dk_9 (dk_at dksL_law_85 22 rfl rfl)
theorem dL_law_2158 : decode cL_law 2158 = .ok (.lcmp, 1) := dk_148 (dk_at dksL_law_85 23 rfl rfl)
theorem dL_law_2159 : decode cL_law 2159 = .ok (.ifCond .eq 5, 3) := dk_153 0 5 (dk_at dksL_law_86 0 rfl rfl)
theorem dL_law_2162 : decode cL_law 2162 = .ok (.iconst 0, 1) := dk_3 (dk_at dksL_law_86 3 rfl rfl)
theorem dL_law_2163 : decode cL_law 2163 = .ok (.ireturn, 1) := dk_172 (dk_at dksL_law_86 4 rfl rfl)
theorem dL_law_2164 : decode cL_law 2164 = .ok (.goto 161, 3) := dk_167 0 161 (dk_at dksL_law_86 5 rfl rfl)
theorem dL_law_2167 : decode cL_law 2167 = .ok (.aload_n 1, 1) := dk_43 (dk_at dksL_law_86 8 rfl rfl)
theorem dL_law_2168 : decode cL_law 2168 = .ok (.aload 4, 2) := dk_25 4 (dk_at dksL_law_86 9 rfl rfl)
theorem dL_law_2170 : decode cL_law 2170 = .ok (.invokestatic 253, 3) := dk_184 0 253 (dk_at dksL_law_86 11 rfl rfl)
theorem dL_law_2173 : decode cL_law 2173 = .ok (.istore 6, 2) := dk_54 6 (dk_at dksL_law_86 14 rfl rfl)
theorem dL_law_2175 : decode cL_law 2175 = .ok (.aload_n 2, 1) := dk_44 (dk_at dksL_law_86 16 rfl rfl)
theorem dL_law_2176 : decode cL_law 2176 = .ok (.invokevirtual 256, 3) := dk_182 1 0 (dk_at dksL_law_86 17 rfl rfl)
theorem dL_law_2179 : decode cL_law 2179 = .ok (.fstore 7, 2) := dk_56 7 (dk_at dksL_law_86 20 rfl rfl)
theorem dL_law_2181 : decode cL_law 2181 = .ok (.aload_n 2, 1) := dk_44 (dk_at dksL_law_86 22 rfl rfl)
theorem dL_law_2182 : decode cL_law 2182 = .ok (.invokevirtual 140, 3) := dk_182 0 140 (dk_at dksL_law_87 0 rfl rfl)
theorem dL_law_2185 : decode cL_law 2185 = .ok (.iload 6, 2) := dk_21 6 (dk_at dksL_law_87 3 rfl rfl)
theorem dL_law_2187 : decode cL_law 2187 = .ok (.if_icmp .eq 5, 3) := dk_159 0 5 (dk_at dksL_law_87 5 rfl rfl)
theorem dL_law_2190 : decode cL_law 2190 = .ok (.iconst 0, 1) := dk_3 (dk_at dksL_law_87 8 rfl rfl)
theorem dL_law_2191 : decode cL_law 2191 = .ok (.ireturn, 1) := dk_172 (dk_at dksL_law_87 9 rfl rfl)
theorem dL_law_2192 : decode cL_law 2192 = .ok (.iload 6, 2) := dk_21 6 (dk_at dksL_law_87 10 rfl rfl)
theorem dL_law_2194 : decode cL_law 2194 = .ok (.ifCond .ne 36, 3) := dk_154 0 36 (dk_at dksL_law_87 12 rfl rfl)
theorem dL_law_2197 : decode cL_law 2197 = .ok (.aload 4, 2) := dk_25 4 (dk_at dksL_law_87 15 rfl rfl)
theorem dL_law_2199 : decode cL_law 2199 = .ok (.iconst 0, 1) := dk_3 (dk_at dksL_law_87 17 rfl rfl)
theorem dL_law_2200 : decode cL_law 2200 = .ok (.daload, 1) := dk_49 (dk_at dksL_law_87 18 rfl rfl)
theorem dL_law_2201 : decode cL_law 2201 = .ok (.fload 7, 2) := dk_23 7 (dk_at dksL_law_87 19 rfl rfl)
theorem dL_law_2203 : decode cL_law 2203 = .ok (.f2d, 1) := dk_141 (dk_at dksL_law_87 21 rfl rfl)
theorem dL_law_2204 : decode cL_law 2204 = .ok (.dcmp .l, 1) := dk_151 (dk_at dksL_law_87 22 rfl rfl)
theorem dL_law_2205 : decode cL_law 2205 = .ok (.ifCond .eq 25, 3) := dk_153 0 25 (dk_at dksL_law_88 0 rfl rfl)
theorem dL_law_2208 : decode cL_law 2208 = .ok (.aload 4, 2) := dk_25 4 (dk_at dksL_law_88 3 rfl rfl)
theorem dL_law_2210 : decode cL_law 2210 = .ok (.iconst 0, 1) := dk_3 (dk_at dksL_law_88 5 rfl rfl)
theorem dL_law_2211 : decode cL_law 2211 = .ok (.daload, 1) := dk_49 (dk_at dksL_law_88 6 rfl rfl)
theorem dL_law_2212 : decode cL_law 2212 = .ok (.aload 4, 2) := dk_25 4 (dk_at dksL_law_88 7 rfl rfl)
theorem dL_law_2214 : decode cL_law 2214 = .ok (.iconst 0, 1) := dk_3 (dk_at dksL_law_88 9 rfl rfl)
theorem dL_law_2215 : decode cL_law 2215 = .ok (.daload, 1) := dk_49 (dk_at dksL_law_88 10 rfl rfl)
theorem dL_law_2216 : decode cL_law 2216 = .ok (.dcmp .l, 1) := dk_151 (dk_at dksL_law_88 11 rfl rfl)
theorem dL_law_2217 : decode cL_law 2217 = .ok (.ifCond .eq 11, 3) := dk_153 0 11 (dk_at dksL_law_88 12 rfl rfl)
theorem dL_law_2220 : decode cL_law 2220 = .ok (.fload 7, 2) := dk_23 7 (dk_at dksL_law_88 15 rfl rfl)
theorem dL_law_2222 : decode cL_law 2222 = .ok (.fload 7, 2) := dk_23 7 (dk_at dksL_law_88 17 rfl rfl)
theorem dL_law_2224 : decode cL_law 2224 = .ok (.fcmp .l, 1) := dk_149 (dk_at dksL_law_88 19 rfl rfl)
theorem dL_law_2225 : decode cL_law 2225 = .ok (.ifCond .ne 5, 3) := dk_154 0 5 (dk_at dksL_law_88 20 rfl rfl)
theorem dL_law_2228 : decode cL_law 2228 = .ok (.iconst 0, 1) := dk_3 (dk_at dksL_law_88 23 rfl rfl)
theorem dL_law_2229 : decode cL_law 2229 = .ok (.ireturn, 1) := dk_172 (dk_at dksL_law_89 0 rfl rfl)
theorem dL_law_2230 : decode cL_law 2230 = .ok (.goto 95, 3) := dk_167 0 95 (dk_at dksL_law_89 1 rfl rfl)
theorem dL_law_2233 : decode cL_law 2233 = .ok (.aload_n 1, 1) := dk_43 (dk_at dksL_law_89 4 rfl rfl)
theorem dL_law_2234 : decode cL_law 2234 = .ok (.aload 4, 2) := dk_25 4 (dk_at dksL_law_89 5 rfl rfl)
theorem dL_law_2236 : decode cL_law 2236 = .ok (.invokestatic 257, 3) := dk_184 1 1 (dk_at dksL_law_89 7 rfl rfl)
theorem dL_law_2239 : decode cL_law 2239 = .ok (.istore 6, 2) := dk_54 6 (dk_at dksL_law_89 10 rfl rfl)
theorem dL_law_2241 : decode cL_law 2241 = .ok (.aload_n 2, 1) := dk_44 (dk_at dksL_law_89 12 rfl rfl)
theorem dL_law_2242 : decode cL_law 2242 = .ok (.invokevirtual 259, 3) := dk_182 1 3 (dk_at dksL_law_89 13 rfl rfl)
theorem dL_law_2245 : decode cL_law 2245 = .ok (.dstore 7, 2) := dk_57 7 (dk_at dksL_law_89 16 rfl rfl)
theorem dL_law_2247 : decode cL_law 2247 = .ok (.aload_n 2, 1) := dk_44 (dk_at dksL_law_89 18 rfl rfl)
theorem dL_law_2248 : decode cL_law 2248 = .ok (.invokevirtual 140, 3) := dk_182 0 140 (dk_at dksL_law_89 19 rfl rfl)
theorem dL_law_2251 : decode cL_law 2251 = .ok (.iload 6, 2) := dk_21 6 (dk_at dksL_law_89 22 rfl rfl)
theorem dL_law_2253 : decode cL_law 2253 = .ok (.if_icmp .eq 5, 3) := dk_159 0 5 (dk_at dksL_law_90 0 rfl rfl)
theorem dL_law_2256 : decode cL_law 2256 = .ok (.iconst 0, 1) := dk_3 (dk_at dksL_law_90 3 rfl rfl)
theorem dL_law_2257 : decode cL_law 2257 = .ok (.ireturn, 1) := dk_172 (dk_at dksL_law_90 4 rfl rfl)
theorem dL_law_2258 : decode cL_law 2258 = .ok (.iload 6, 2) := dk_21 6 (dk_at dksL_law_90 5 rfl rfl)
theorem dL_law_2260 : decode cL_law 2260 = .ok (.ifCond .ne 35, 3) := dk_154 0 35 (dk_at dksL_law_90 7 rfl rfl)
theorem dL_law_2263 : decode cL_law 2263 = .ok (.aload 4, 2) := dk_25 4 (dk_at dksL_law_90 10 rfl rfl)
theorem dL_law_2265 : decode cL_law 2265 = .ok (.iconst 0, 1) := dk_3 (dk_at dksL_law_90 12 rfl rfl)
theorem dL_law_2266 : decode cL_law 2266 = .ok (.daload, 1) := dk_49 (dk_at dksL_law_90 13 rfl rfl)
theorem dL_law_2267 : decode cL_law 2267 = .ok (.dload 7, 2) := dk_24 7 (dk_at dksL_law_90 14 rfl rfl)
theorem dL_law_2269 : decode cL_law 2269 = .ok (.dcmp .l, 1) := dk_151 (dk_at dksL_law_90 16 rfl rfl)
theorem dL_law_2270 : decode cL_law 2270 = .ok (.ifCond .eq 25, 3) := dk_153 0 25 (dk_at dksL_law_90 17 rfl rfl)
theorem dL_law_2273 : decode cL_law 2273 = .ok (.aload 4, 2) := dk_25 4 (dk_at dksL_law_90 20 rfl rfl)
theorem dL_law_2275 : decode cL_law 2275 = .ok (.iconst 0, 1) := dk_3 (dk_at dksL_law_90 22 rfl rfl)
theorem dL_law_2276 : decode cL_law 2276 = .ok (.daload, 1) := dk_49 (dk_at dksL_law_90 23 rfl rfl)
theorem dL_law_2277 : decode cL_law 2277 = .ok (.aload 4, 2) := dk_25 4 (dk_at dksL_law_91 0 rfl rfl)
theorem dL_law_2279 : decode cL_law 2279 = .ok (.iconst 0, 1) := dk_3 (dk_at dksL_law_91 2 rfl rfl)
theorem dL_law_2280 : decode cL_law 2280 = .ok (.daload, 1) := dk_49 (dk_at dksL_law_91 3 rfl rfl)
theorem dL_law_2281 : decode cL_law 2281 = .ok (.dcmp .l, 1) := dk_151 (dk_at dksL_law_91 4 rfl rfl)
theorem dL_law_2282 : decode cL_law 2282 = .ok (.ifCond .eq 11, 3) := dk_153 0 11 (dk_at dksL_law_91 5 rfl rfl)
theorem dL_law_2285 : decode cL_law 2285 = .ok (.dload 7, 2) := dk_24 7 (dk_at dksL_law_91 8 rfl rfl)
theorem dL_law_2287 : decode cL_law 2287 = .ok (.dload 7, 2) := dk_24 7 (dk_at dksL_law_91 10 rfl rfl)
theorem dL_law_2289 : decode cL_law 2289 = .ok (.dcmp .l, 1) := dk_151 (dk_at dksL_law_91 12 rfl rfl)
theorem dL_law_2290 : decode cL_law 2290 = .ok (.ifCond .ne 5, 3) := dk_154 0 5 (dk_at dksL_law_91 13 rfl rfl)
theorem dL_law_2293 : decode cL_law 2293 = .ok (.iconst 0, 1) := dk_3 (dk_at dksL_law_91 16 rfl rfl)
theorem dL_law_2294 : decode cL_law 2294 = .ok (.ireturn, 1) := dk_172 (dk_at dksL_law_91 17 rfl rfl)
theorem dL_law_2295 : decode cL_law 2295 = .ok (.goto 30, 3) := dk_167 0 30 (dk_at dksL_law_91 18 rfl rfl)
theorem dL_law_2298 : decode cL_law 2298 = .ok (.aload_n 1, 1) := dk_43 (dk_at dksL_law_91 21 rfl rfl)
theorem dL_law_2299 : decode cL_law 2299 = .ok (.invokevirtual 260, 3) := dk_182 1 4 (dk_at dksL_law_92 0 rfl rfl)
theorem dL_law_2302 : decode cL_law 2302 = .ok (.aload_n 2, 1) := dk_44 (dk_at dksL_law_92 3 rfl rfl)
theorem dL_law_2303 : decode cL_law 2303 = .ok (.invokevirtual 264, 3) := dk_182 1 8 (dk_at dksL_law_92 4 rfl rfl)
theorem dL_law_2306 : decode cL_law 2306 = .ok (.lcmp, 1) := dk_148 (dk_at dksL_law_92 7 rfl rfl)
theorem dL_law_2307 : decode cL_law 2307 = .ok (.ifCond .eq 18, 3) := dk_153 0 18 (dk_at dksL_law_92 8 rfl rfl)
theorem dL_law_2310 : decode cL_law 2310 = .ok (.iconst 0, 1) := dk_3 (dk_at dksL_law_92 11 rfl rfl)
theorem dL_law_2311 : decode cL_law 2311 = .ok (.ireturn, 1) := dk_172 (dk_at dksL_law_92 12 rfl rfl)
theorem dL_law_2312 : decode cL_law 2312 = .ok (.aload_n 1, 1) := dk_43 (dk_at dksL_law_92 13 rfl rfl)
theorem dL_law_2313 : decode cL_law 2313 = .ok (.invokevirtual 265, 3) := dk_182 1 9 (dk_at dksL_law_92 14 rfl rfl)
theorem dL_law_2316 : decode cL_law 2316 = .ok (.aload_n 2, 1) := dk_44 (dk_at dksL_law_92 17 rfl rfl)
theorem dL_law_2317 : decode cL_law 2317 = .ok (.invokevirtual 269, 3) := dk_182 1 13 (dk_at dksL_law_92 18 rfl rfl)
theorem dL_law_2320 : decode cL_law 2320 = .ok (.if_icmp .eq 5, 3) := dk_159 0 5 (dk_at dksL_law_92 21 rfl rfl)
theorem dL_law_2323 : decode cL_law 2323 = .ok (.iconst 0, 1) := dk_3 (dk_at dksL_law_93 0 rfl rfl)
theorem dL_law_2324 : decode cL_law 2324 = .ok (.ireturn, 1) := dk_172 (dk_at dksL_law_93 1 rfl rfl)
theorem dL_law_2325 : decode cL_law 2325 = .ok (.iinc 5 4, 3) := dk_132 5 4 (dk_at dksL_law_93 2 rfl rfl)
theorem dL_law_2328 : decode cL_law 2328 = .ok (.goto (-2300), 3) := dk_167 247 4 (dk_at dksL_law_93 5 rfl rfl)
theorem dL_law_2331 : decode cL_law 2331 = .ok (.iconst 1, 1) := dk_4 (dk_at dksL_law_93 8 rfl rfl)
theorem dL_law_2332 : decode cL_law 2332 = .ok (.ireturn, 1) := dk_172 (dk_at dksL_law_93 9 rfl rfl)
