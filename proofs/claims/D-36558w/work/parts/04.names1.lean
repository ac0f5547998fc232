set_option maxRecDepth 100000
/-! java/lang/String -/
def RJ16 : String := "java/lang/String"
def TJ16 : u_T := fun k => match k with
  | 0 => ("java/lang/String", "value", "[B", true)
  | 1 => ("java/lang/String", "coder", "B", true)
  | 2 => ("java/lang/String", "hash", "I", false)
  | _ => ("java/lang/String", "hashIsZero", "Z", false)
def tyJ16 : Nat → FieldType := fun k => match k with
  | 0 => .array .byte
  | 1 => .byte
  | 2 => .int
  | _ => .boolean
abbrev wsJ160 : List Cond := u_ws RJ16 TJ16 4
theorem nmJ16 : ∀ a, a < 4 → ∀ b, b < 4 → a ≠ b → (TJ16 a).2.1 ≠ (TJ16 b).2.1 := by decide +kernel
theorem tyJ16_ok : ∀ k, k < 4 → parseFieldDescriptor (TJ16 k).2.2.1 = some (tyJ16 k) := by decide +kernel
abbrev cJ16_checkBoundsBeginEnd : ByteArray := prog_44_method_158_code
def yJ16_checkBoundsBeginEnd : MethodName := ⟨RJ16, "checkBoundsBeginEnd", "(III)V"⟩
def dkwJ16_checkBoundsBeginEnd_0 : List UInt8 := [26, 27, 28, 178, 4, 29, 184, 4, 38, 87, 177]
abbrev dktJ16_checkBoundsBeginEnd_0 : List UInt8 := dkwJ16_checkBoundsBeginEnd_0 ++ []
theorem dksJ16_checkBoundsBeginEnd_0 : cJ16_checkBoundsBeginEnd.data.toList.drop 0 = dktJ16_checkBoundsBeginEnd_0 := by decide +kernel
theorem dJ16_checkBoundsBeginEnd_0 : decode cJ16_checkBoundsBeginEnd 0 = .ok (.iload_n 0, 1) := dk_26 (dk_at dksJ16_checkBoundsBeginEnd_0 0 rfl rfl)
theorem dJ16_checkBoundsBeginEnd_1 : decode cJ16_checkBoundsBeginEnd 1 = .ok (.iload_n 1, 1) := dk_27 (dk_at dksJ16_checkBoundsBeginEnd_0 1 rfl rfl)
theorem dJ16_checkBoundsBeginEnd_2 : decode cJ16_checkBoundsBeginEnd 2 = .ok (.iload_n 2, 1) := dk_28 (dk_at dksJ16_checkBoundsBeginEnd_0 2 rfl rfl)
theorem dJ16_checkBoundsBeginEnd_3 : decode cJ16_checkBoundsBeginEnd 3 = .ok (.getstatic 1053, 3) := dk_178 4 29 (dk_at dksJ16_checkBoundsBeginEnd_0 3 rfl rfl)
theorem dJ16_checkBoundsBeginEnd_6 : decode cJ16_checkBoundsBeginEnd 6 = .ok (.invokestatic 1062, 3) := dk_184 4 38 (dk_at dksJ16_checkBoundsBeginEnd_0 6 rfl rfl)
theorem dJ16_checkBoundsBeginEnd_9 : decode cJ16_checkBoundsBeginEnd 9 = .ok (.pop, 1) := dk_87 (dk_at dksJ16_checkBoundsBeginEnd_0 9 rfl rfl)
theorem dJ16_checkBoundsBeginEnd_10 : decode cJ16_checkBoundsBeginEnd 10 = .ok (.return_, 1) := dk_177 (dk_at dksJ16_checkBoundsBeginEnd_0 10 rfl rfl)
abbrev cJ16_length : ByteArray := prog_44_method_54_code
def yJ16_length : MethodName := ⟨RJ16, "length", "()I"⟩
def dkwJ16_length_0 : List UInt8 := [42, 180, 0, 9, 190, 42, 182, 1, 79, 122, 172]
abbrev dktJ16_length_0 : List UInt8 := dkwJ16_length_0 ++ []
theorem dksJ16_length_0 : cJ16_length.data.toList.drop 0 = dktJ16_length_0 := by decide +kernel
theorem dJ16_length_0 : decode cJ16_length 0 = .ok (.aload_n 0, 1) := dk_42 (dk_at dksJ16_length_0 0 rfl rfl)
theorem dJ16_length_1 : decode cJ16_length 1 = .ok (.getfield 9, 3) := dk_180 0 9 (dk_at dksJ16_length_0 1 rfl rfl)
theorem dJ16_length_4 : decode cJ16_length 4 = .ok (.arraylength, 1) := dk_190 (dk_at dksJ16_length_0 4 rfl rfl)
theorem dJ16_length_5 : decode cJ16_length 5 = .ok (.aload_n 0, 1) := dk_42 (dk_at dksJ16_length_0 5 rfl rfl)
theorem dJ16_length_6 : decode cJ16_length 6 = .ok (.invokevirtual 335, 3) := dk_182 1 79 (dk_at dksJ16_length_0 6 rfl rfl)
theorem dJ16_length_9 : decode cJ16_length 9 = .ok (.ishr, 1) := dk_122 (dk_at dksJ16_length_0 9 rfl rfl)
theorem dJ16_length_10 : decode cJ16_length 10 = .ok (.ireturn, 1) := dk_172 (dk_at dksJ16_length_0 10 rfl rfl)
abbrev cJ16_coder : ByteArray := prog_44_method_152_code
def yJ16_coder : MethodName := ⟨RJ16, "coder", "()B"⟩
def dkwJ16_coder_0 : List UInt8 := [178, 0, 38, 153, 0, 10, 42, 180, 0, 15, 167, 0, 4, 4, 172]
abbrev dktJ16_coder_0 : List UInt8 := dkwJ16_coder_0 ++ []
theorem dksJ16_coder_0 : cJ16_coder.data.toList.drop 0 = dktJ16_coder_0 := by decide +kernel
theorem dJ16_coder_0 : decode cJ16_coder 0 = .ok (.getstatic 38, 3) := dk_178 0 38 (dk_at dksJ16_coder_0 0 rfl rfl)
theorem dJ16_coder_3 : decode cJ16_coder 3 = .ok (.ifCond .eq 10, 3) := dk_153 0 10 (dk_at dksJ16_coder_0 3 rfl rfl)
theorem dJ16_coder_6 : decode cJ16_coder 6 = .ok (.aload_n 0, 1) := dk_42 (dk_at dksJ16_coder_0 6 rfl rfl)
theorem dJ16_coder_7 : decode cJ16_coder 7 = .ok (.getfield 15, 3) := dk_180 0 15 (dk_at dksJ16_coder_0 7 rfl rfl)
theorem dJ16_coder_10 : decode cJ16_coder 10 = .ok (.goto 4, 3) := dk_167 0 4 (dk_at dksJ16_coder_0 10 rfl rfl)
theorem dJ16_coder_13 : decode cJ16_coder 13 = .ok (.iconst 1, 1) := dk_4 (dk_at dksJ16_coder_0 13 rfl rfl)
theorem dJ16_coder_14 : decode cJ16_coder 14 = .ok (.ireturn, 1) := dk_172 (dk_at dksJ16_coder_0 14 rfl rfl)
abbrev cJ16_checkBoundsOffCount : ByteArray := prog_44_method_157_code
def yJ16_checkBoundsOffCount : MethodName := ⟨RJ16, "checkBoundsOffCount", "(III)I"⟩
def dkwJ16_checkBoundsOffCount_0 : List UInt8 := [26, 27, 28, 178, 4, 29, 184, 4, 41, 172]
abbrev dktJ16_checkBoundsOffCount_0 : List UInt8 := dkwJ16_checkBoundsOffCount_0 ++ []
theorem dksJ16_checkBoundsOffCount_0 : cJ16_checkBoundsOffCount.data.toList.drop 0 = dktJ16_checkBoundsOffCount_0 := by decide +kernel
theorem dJ16_checkBoundsOffCount_0 : decode cJ16_checkBoundsOffCount 0 = .ok (.iload_n 0, 1) := dk_26 (dk_at dksJ16_checkBoundsOffCount_0 0 rfl rfl)
theorem dJ16_checkBoundsOffCount_1 : decode cJ16_checkBoundsOffCount 1 = .ok (.iload_n 1, 1) := dk_27 (dk_at dksJ16_checkBoundsOffCount_0 1 rfl rfl)
theorem dJ16_checkBoundsOffCount_2 : decode cJ16_checkBoundsOffCount 2 = .ok (.iload_n 2, 1) := dk_28 (dk_at dksJ16_checkBoundsOffCount_0 2 rfl rfl)
theorem dJ16_checkBoundsOffCount_3 : decode cJ16_checkBoundsOffCount 3 = .ok (.getstatic 1053, 3) := dk_178 4 29 (dk_at dksJ16_checkBoundsOffCount_0 3 rfl rfl)
theorem dJ16_checkBoundsOffCount_6 : decode cJ16_checkBoundsOffCount 6 = .ok (.invokestatic 1065, 3) := dk_184 4 41 (dk_at dksJ16_checkBoundsOffCount_0 6 rfl rfl)
theorem dJ16_checkBoundsOffCount_9 : decode cJ16_checkBoundsOffCount 9 = .ok (.ireturn, 1) := dk_172 (dk_at dksJ16_checkBoundsOffCount_0 9 rfl rfl)
abbrev cJ16_getBytes : ByteArray := prog_44_method_147_code
def yJ16_getBytes : MethodName := ⟨RJ16, "getBytes", "([BIB)V"⟩
def dkwJ16_getBytes_1 : List UInt8 := [184, 0, 212, 167, 0, 18, 42, 180, 0, 9, 3, 43, 28, 42, 180, 0, 9, 190, 184, 0, 106, 177]
abbrev dktJ16_getBytes_1 : List UInt8 := dkwJ16_getBytes_1 ++ []
def dkwJ16_getBytes_0 : List UInt8 := [42, 182, 1, 79, 29, 160, 0, 23, 42, 180, 0, 9, 3, 43, 28, 29, 120, 42, 180, 0, 9, 190]
abbrev dktJ16_getBytes_0 : List UInt8 := dkwJ16_getBytes_0 ++ dktJ16_getBytes_1
theorem dksJ16_getBytes_0 : cJ16_getBytes.data.toList.drop 0 = dktJ16_getBytes_0 := by decide +kernel
theorem dksJ16_getBytes_1 : cJ16_getBytes.data.toList.drop 22 = dktJ16_getBytes_1 := dk_seg dksJ16_getBytes_0 22 rfl rfl
theorem dJ16_getBytes_0 : decode cJ16_getBytes 0 = .ok (.aload_n 0, 1) := dk_42 (dk_at dksJ16_getBytes_0 0 rfl rfl)
theorem dJ16_getBytes_1 : decode cJ16_getBytes 1 = .ok (.invokevirtual 335, 3) := dk_182 1 79 (dk_at dksJ16_getBytes_0 1 rfl rfl)
theorem dJ16_getBytes_4 : decode cJ16_getBytes 4 = .ok (.iload_n 3, 1) := dk_29 (dk_at dksJ16_getBytes_0 4 rfl rfl)
theorem dJ16_getBytes_5 : decode cJ16_getBytes 5 = .ok (.if_icmp .ne 23, 3) := dk_160 0 23 (dk_at dksJ16_getBytes_0 5 rfl rfl)
theorem dJ16_getBytes_8 : decode cJ16_getBytes 8 = .ok (.aload_n 0, 1) := dk_42 (dk_at dksJ16_getBytes_0 8 rfl rfl)
theorem dJ16_getBytes_9 : decode cJ16_getBytes 9 = .ok (.getfield 9, 3) := dk_180 0 9 (dk_at dksJ16_getBytes_0 9 rfl rfl)
theorem dJ16_getBytes_12 : decode cJ16_getBytes 12 = .ok (.iconst 0, 1) := dk_3 (dk_at dksJ16_getBytes_0 12 rfl rfl)
theorem dJ16_getBytes_13 : decode cJ16_getBytes 13 = .ok (.aload_n 1, 1) := dk_43 (dk_at dksJ16_getBytes_0 13 rfl rfl)
theorem dJ16_getBytes_14 : decode cJ16_getBytes 14 = .ok (.iload_n 2, 1) := dk_28 (dk_at dksJ16_getBytes_0 14 rfl rfl)
theorem dJ16_getBytes_15 : decode cJ16_getBytes 15 = .ok (.iload_n 3, 1) := dk_29 (dk_at dksJ16_getBytes_0 15 rfl rfl)
theorem dJ16_getBytes_16 : decode cJ16_getBytes 16 = .ok (.ishl, 1) := dk_120 (dk_at dksJ16_getBytes_0 16 rfl rfl)
theorem dJ16_getBytes_17 : decode cJ16_getBytes 17 = .ok (.aload_n 0, 1) := dk_42 (dk_at dksJ16_getBytes_0 17 rfl rfl)
theorem dJ16_getBytes_18 : decode cJ16_getBytes 18 = .ok (.getfield 9, 3) := dk_180 0 9 (dk_at dksJ16_getBytes_0 18 rfl rfl)
theorem dJ16_getBytes_21 : decode cJ16_getBytes 21 = .ok (.arraylength, 1) := dk_190 (dk_at dksJ16_getBytes_0 21 rfl rfl)
theorem dJ16_getBytes_22 : decode cJ16_getBytes 22 = .ok (.invokestatic 212, 3) := dk_184 0 212 (dk_at dksJ16_getBytes_1 0 rfl rfl)
theorem dJ16_getBytes_25 : decode cJ16_getBytes 25 = .ok (.goto 18, 3) := dk_167 0 18 (dk_at dksJ16_getBytes_1 3 rfl rfl)
theorem dJ16_getBytes_28 : decode cJ16_getBytes 28 = .ok (.aload_n 0, 1) := dk_42 (dk_at dksJ16_getBytes_1 6 rfl rfl)
theorem dJ16_getBytes_29 : decode cJ16_getBytes 29 = .ok (.getfield 9, 3) := dk_180 0 9 (dk_at dksJ16_getBytes_1 7 rfl rfl)
theorem dJ16_getBytes_32 : decode cJ16_getBytes 32 = .ok (.iconst 0, 1) := dk_3 (dk_at dksJ16_getBytes_1 10 rfl rfl)
theorem dJ16_getBytes_33 : decode cJ16_getBytes 33 = .ok (.aload_n 1, 1) := dk_43 (dk_at dksJ16_getBytes_1 11 rfl rfl)
theorem dJ16_getBytes_34 : decode cJ16_getBytes 34 = .ok (.iload_n 2, 1) := dk_28 (dk_at dksJ16_getBytes_1 12 rfl rfl)
theorem dJ16_getBytes_35 : decode cJ16_getBytes 35 = .ok (.aload_n 0, 1) := dk_42 (dk_at dksJ16_getBytes_1 13 rfl rfl)
theorem dJ16_getBytes_36 : decode cJ16_getBytes 36 = .ok (.getfield 9, 3) := dk_180 0 9 (dk_at dksJ16_getBytes_1 14 rfl rfl)
theorem dJ16_getBytes_39 : decode cJ16_getBytes 39 = .ok (.arraylength, 1) := dk_190 (dk_at dksJ16_getBytes_1 17 rfl rfl)
theorem dJ16_getBytes_40 : decode cJ16_getBytes 40 = .ok (.invokestatic 106, 3) := dk_184 0 106 (dk_at dksJ16_getBytes_1 18 rfl rfl)
theorem dJ16_getBytes_43 : decode cJ16_getBytes 43 = .ok (.return_, 1) := dk_177 (dk_at dksJ16_getBytes_1 21 rfl rfl)
abbrev cJ16_init : ByteArray := prog_44_method_53_code
def yJ16_init : MethodName := ⟨RJ16, "<init>", "(Ljava/lang/StringBuilder;)V"⟩
def dkwJ16_init_0 : List UInt8 := [42, 43, 1, 183, 1, 233, 177]
abbrev dktJ16_init_0 : List UInt8 := dkwJ16_init_0 ++ []
theorem dksJ16_init_0 : cJ16_init.data.toList.drop 0 = dktJ16_init_0 := by decide +kernel
theorem dJ16_init_0 : decode cJ16_init 0 = .ok (.aload_n 0, 1) := dk_42 (dk_at dksJ16_init_0 0 rfl rfl)
theorem dJ16_init_1 : decode cJ16_init 1 = .ok (.aload_n 1, 1) := dk_43 (dk_at dksJ16_init_0 1 rfl rfl)
theorem dJ16_init_2 : decode cJ16_init 2 = .ok (.aconst_null, 1) := dk_1 (dk_at dksJ16_init_0 2 rfl rfl)
theorem dJ16_init_3 : decode cJ16_init 3 = .ok (.invokespecial 489, 3) := dk_183 1 233 (dk_at dksJ16_init_0 3 rfl rfl)
theorem dJ16_init_6 : decode cJ16_init 6 = .ok (.return_, 1) := dk_177 (dk_at dksJ16_init_0 6 rfl rfl)
abbrev cJ16_init_2 : ByteArray := prog_44_method_150_code
def yJ16_init_2 : MethodName := ⟨RJ16, "<init>", "(Ljava/lang/AbstractStringBuilder;Ljava/lang/Void;)V"⟩
def dkwJ16_init_2_4 : List UInt8 := [181, 0, 9, 177]
abbrev dktJ16_init_2_4 : List UInt8 := dkwJ16_init_2_4 ++ []
def dkwJ16_init_2_3 : List UInt8 := [184, 0, 47, 181, 0, 15, 177, 42, 4, 181, 0, 15, 42, 45, 3, 21, 4, 4, 120, 184, 0, 54]
abbrev dktJ16_init_2_3 : List UInt8 := dkwJ16_init_2_3 ++ dktJ16_init_2_4
def dkwJ16_init_2_2 : List UInt8 := [180, 4, 24, 153, 0, 28, 42, 45, 3, 21, 4, 184, 4, 27, 181, 0, 9, 42, 42, 180, 0, 9, 21, 4]
abbrev dktJ16_init_2_2 : List UInt8 := dkwJ16_init_2_2 ++ dktJ16_init_2_3
def dkwJ16_init_2_1 : List UInt8 := [181, 0, 15, 42, 45, 3, 21, 4, 184, 0, 54, 181, 0, 9, 167, 0, 59, 178, 0, 38, 153, 0, 35, 43]
abbrev dktJ16_init_2_1 : List UInt8 := dkwJ16_init_2_1 ++ dktJ16_init_2_2
def dkwJ16_init_2_0 : List UInt8 := [42, 183, 0, 1, 43, 182, 2, 40, 78, 43, 182, 2, 37, 54, 4, 43, 182, 4, 23, 153, 0, 22, 42, 3]
abbrev dktJ16_init_2_0 : List UInt8 := dkwJ16_init_2_0 ++ dktJ16_init_2_1
theorem dksJ16_init_2_0 : cJ16_init_2.data.toList.drop 0 = dktJ16_init_2_0 := by decide +kernel
theorem dksJ16_init_2_1 : cJ16_init_2.data.toList.drop 24 = dktJ16_init_2_1 := dk_seg dksJ16_init_2_0 24 rfl rfl
theorem dksJ16_init_2_2 : cJ16_init_2.data.toList.drop 48 = dktJ16_init_2_2 := dk_seg dksJ16_init_2_1 24 rfl rfl
theorem dksJ16_init_2_3 : cJ16_init_2.data.toList.drop 72 = dktJ16_init_2_3 := dk_seg dksJ16_init_2_2 24 rfl rfl
theorem dksJ16_init_2_4 : cJ16_init_2.data.toList.drop 94 = dktJ16_init_2_4 := dk_seg dksJ16_init_2_3 22 rfl rfl
theorem dJ16_init_2_0 : decode cJ16_init_2 0 = .ok (.aload_n 0, 1) := dk_42 (dk_at dksJ16_init_2_0 0 rfl rfl)
theorem dJ16_init_2_1 : decode cJ16_init_2 1 = .ok (.invokespecial 1, 3) := dk_183 0 1 (dk_at dksJ16_init_2_0 1 rfl rfl)
theorem dJ16_init_2_4 : decode cJ16_init_2 4 = .ok (.aload_n 1, 1) := dk_43 (dk_at dksJ16_init_2_0 4 rfl rfl)
theorem dJ16_init_2_5 : decode cJ16_init_2 5 = .ok (.invokevirtual 552, 3) := dk_182 2 40 (dk_at dksJ16_init_2_0 5 rfl rfl)
theorem dJ16_init_2_8 : decode cJ16_init_2 8 = .ok (.astore_n 3, 1) := dk_78 (dk_at dksJ16_init_2_0 8 rfl rfl)
theorem dJ16_init_2_9 : decode cJ16_init_2 9 = .ok (.aload_n 1, 1) := dk_43 (dk_at dksJ16_init_2_0 9 rfl rfl)
theorem dJ16_init_2_10 : decode cJ16_init_2 10 = .ok (.invokevirtual 549, 3) := dk_182 2 37 (dk_at dksJ16_init_2_0 10 rfl rfl)
theorem dJ16_init_2_13 : decode cJ16_init_2 13 = .ok (.istore 4, 2) := dk_54 4 (dk_at dksJ16_init_2_0 13 rfl rfl)
theorem dJ16_init_2_15 : decode cJ16_init_2 15 = .ok (.aload_n 1, 1) := dk_43 (dk_at dksJ16_init_2_0 15 rfl rfl)
theorem dJ16_init_2_16 : decode cJ16_init_2 16 = .ok (.invokevirtual 1047, 3) := dk_182 4 23 (dk_at dksJ16_init_2_0 16 rfl rfl)
theorem dJ16_init_2_19 : decode cJ16_init_2 19 = .ok (.ifCond .eq 22, 3) := dk_153 0 22 (dk_at dksJ16_init_2_0 19 rfl rfl)
theorem dJ16_init_2_22 : decode cJ16_init_2 22 = .ok (.aload_n 0, 1) := dk_42 (dk_at dksJ16_init_2_0 22 rfl rfl)
theorem dJ16_init_2_23 : decode cJ16_init_2 23 = .ok (.iconst 0, 1) := dk_3 (dk_at dksJ16_init_2_0 23 rfl rfl)
theorem dJ16_init_2_24 : decode cJ16_init_2 24 = .ok (.putfield 15, 3) := dk_181 0 15 (dk_at dksJ16_init_2_1 0 rfl rfl)
theorem dJ16_init_2_27 : decode cJ16_init_2 27 = .ok (.aload_n 0, 1) := dk_42 (dk_at dksJ16_init_2_1 3 rfl rfl)
theorem dJ16_init_2_28 : decode cJ16_init_2 28 = .ok (.aload_n 3, 1) := dk_45 (dk_at dksJ16_init_2_1 4 rfl rfl)
theorem dJ16_init_2_29 : decode cJ16_init_2 29 = .ok (.iconst 0, 1) := dk_3 (dk_at dksJ16_init_2_1 5 rfl rfl)
theorem dJ16_init_2_30 : decode cJ16_init_2 30 = .ok (.iload 4, 2) := dk_21 4 (dk_at dksJ16_init_2_1 6 rfl rfl)
theorem dJ16_init_2_32 : decode cJ16_init_2 32 = .ok (.invokestatic 54, 3) := dk_184 0 54 (dk_at dksJ16_init_2_1 8 rfl rfl)
theorem dJ16_init_2_35 : decode cJ16_init_2 35 = .ok (.putfield 9, 3) := dk_181 0 9 (dk_at dksJ16_init_2_1 11 rfl rfl)
theorem dJ16_init_2_38 : decode cJ16_init_2 38 = .ok (.goto 59, 3) := dk_167 0 59 (dk_at dksJ16_init_2_1 14 rfl rfl)
theorem dJ16_init_2_41 : decode cJ16_init_2 41 = .ok (.getstatic 38, 3) := dk_178 0 38 (dk_at dksJ16_init_2_1 17 rfl rfl)
theorem dJ16_init_2_44 : decode cJ16_init_2 44 = .ok (.ifCond .eq 35, 3) := dk_153 0 35 (dk_at dksJ16_init_2_1 20 rfl rfl)
theorem dJ16_init_2_47 : decode cJ16_init_2 47 = .ok (.aload_n 1, 1) := dk_43 (dk_at dksJ16_init_2_1 23 rfl rfl)
theorem dJ16_init_2_48 : decode cJ16_init_2 48 = .ok (.getfield 1048, 3) := dk_180 4 24 (dk_at dksJ16_init_2_2 0 rfl rfl)
theorem dJ16_init_2_51 : decode cJ16_init_2 51 = .ok (.ifCond .eq 28, 3) := dk_153 0 28 (dk_at dksJ16_init_2_2 3 rfl rfl)
theorem dJ16_init_2_54 : decode cJ16_init_2 54 = .ok (.aload_n 0, 1) := dk_42 (dk_at dksJ16_init_2_2 6 rfl rfl)
theorem dJ16_init_2_55 : decode cJ16_init_2 55 = .ok (.aload_n 3, 1) := dk_45 (dk_at dksJ16_init_2_2 7 rfl rfl)
theorem dJ16_init_2_56 : decode cJ16_init_2 56 = .ok (.iconst 0, 1) := dk_3 (dk_at dksJ16_init_2_2 8 rfl rfl)
theorem dJ16_init_2_57 : decode cJ16_init_2 57 = .ok (.iload 4, 2) := dk_21 4 (dk_at dksJ16_init_2_2 9 rfl rfl)
theorem dJ16_init_2_59 : decode cJ16_init_2 59 = .ok (.invokestatic 1051, 3) := dk_184 4 27 (dk_at dksJ16_init_2_2 11 rfl rfl)
theorem dJ16_init_2_62 : decode cJ16_init_2 62 = .ok (.putfield 9, 3) := dk_181 0 9 (dk_at dksJ16_init_2_2 14 rfl rfl)
theorem dJ16_init_2_65 : decode cJ16_init_2 65 = .ok (.aload_n 0, 1) := dk_42 (dk_at dksJ16_init_2_2 17 rfl rfl)
theorem dJ16_init_2_66 : decode cJ16_init_2 66 = .ok (.aload_n 0, 1) := dk_42 (dk_at dksJ16_init_2_2 18 rfl rfl)
theorem dJ16_init_2_67 : decode cJ16_init_2 67 = .ok (.getfield 9, 3) := dk_180 0 9 (dk_at dksJ16_init_2_2 19 rfl rfl)
theorem dJ16_init_2_70 : decode cJ16_init_2 70 = .ok (.iload 4, 2) := dk_21 4 (dk_at dksJ16_init_2_2 22 rfl rfl)
theorem dJ16_init_2_72 : decode cJ16_init_2 72 = .ok (.invokestatic 47, 3) := dk_184 0 47 (dk_at dksJ16_init_2_3 0 rfl rfl)
theorem dJ16_init_2_75 : decode cJ16_init_2 75 = .ok (.putfield 15, 3) := dk_181 0 15 (dk_at dksJ16_init_2_3 3 rfl rfl)
theorem dJ16_init_2_78 : decode cJ16_init_2 78 = .ok (.return_, 1) := dk_177 (dk_at dksJ16_init_2_3 6 rfl rfl)
theorem dJ16_init_2_79 : decode cJ16_init_2 79 = .ok (.aload_n 0, 1) := dk_42 (dk_at dksJ16_init_2_3 7 rfl rfl)
theorem dJ16_init_2_80 : decode cJ16_init_2 80 = .ok (.iconst 1, 1) := dk_4 (dk_at dksJ16_init_2_3 8 rfl rfl)
theorem dJ16_init_2_81 : decode cJ16_init_2 81 = .ok (.putfield 15, 3) := dk_181 0 15 (dk_at dksJ16_init_2_3 9 rfl rfl)
theorem dJ16_init_2_84 : decode cJ16_init_2 84 = .ok (.aload_n 0, 1) := dk_42 (dk_at dksJ16_init_2_3 12 rfl rfl)
theorem dJ16_init_2_85 : decode cJ16_init_2 85 = .ok (.aload_n 3, 1) := dk_45 (dk_at dksJ16_init_2_3 13 rfl rfl)
theorem dJ16_init_2_86 : decode cJ16_init_2 86 = .ok (.iconst 0, 1) := dk_3 (dk_at dksJ16_init_2_3 14 rfl rfl)
theorem dJ16_init_2_87 : decode cJ16_init_2 87 = .ok (.iload 4, 2) := dk_21 4 (dk_at dksJ16_init_2_3 15 rfl rfl)
theorem dJ16_init_2_89 : decode cJ16_init_2 89 = .ok (.iconst 1, 1) := dk_4 (dk_at dksJ16_init_2_3 17 rfl rfl)
theorem dJ16_init_2_90 : decode cJ16_init_2 90 = .ok (.ishl, 1) := dk_120 (dk_at dksJ16_init_2_3 18 rfl rfl)
theorem dJ16_init_2_91 : decode cJ16_init_2 91 = .ok (.invokestatic 54, 3) := dk_184 0 54 (dk_at dksJ16_init_2_3 19 rfl rfl)
theorem dJ16_init_2_94 : decode cJ16_init_2 94 = .ok (.putfield 9, 3) := dk_181 0 9 (dk_at dksJ16_init_2_4 0 rfl rfl)
theorem dJ16_init_2_97 : decode cJ16_init_2 97 = .ok (.return_, 1) := dk_177 (dk_at dksJ16_init_2_4 3 rfl rfl)
abbrev cJ16_hashCode : ByteArray := prog_44_method_78_code
def yJ16_hashCode : MethodName := ⟨RJ16, "hashCode", "()I"⟩
def dkwJ16_hashCode_2 : List UInt8 := [181, 0, 23, 167, 0, 8, 42, 27, 181, 0, 19, 27, 172]
abbrev dktJ16_hashCode_2 : List UInt8 := dkwJ16_hashCode_2 ++ []
def dkwJ16_hashCode_1 : List UInt8 := [180, 0, 9, 184, 2, 116, 167, 0, 10, 42, 180, 0, 9, 184, 2, 120, 60, 27, 154, 0, 11, 42, 4]
abbrev dktJ16_hashCode_1 : List UInt8 := dkwJ16_hashCode_1 ++ dktJ16_hashCode_2
def dkwJ16_hashCode_0 : List UInt8 := [42, 180, 0, 19, 60, 27, 154, 0, 52, 42, 180, 0, 23, 154, 0, 45, 42, 182, 1, 236, 153, 0, 13, 42]
abbrev dktJ16_hashCode_0 : List UInt8 := dkwJ16_hashCode_0 ++ dktJ16_hashCode_1
theorem dksJ16_hashCode_0 : cJ16_hashCode.data.toList.drop 0 = dktJ16_hashCode_0 := by decide +kernel
theorem dksJ16_hashCode_1 : cJ16_hashCode.data.toList.drop 24 = dktJ16_hashCode_1 := dk_seg dksJ16_hashCode_0 24 rfl rfl
theorem dksJ16_hashCode_2 : cJ16_hashCode.data.toList.drop 47 = dktJ16_hashCode_2 := dk_seg dksJ16_hashCode_1 23 rfl rfl
theorem dJ16_hashCode_0 : decode cJ16_hashCode 0 = .ok (.aload_n 0, 1) := dk_42 (dk_at dksJ16_hashCode_0 0 rfl rfl)
theorem dJ16_hashCode_1 : decode cJ16_hashCode 1 = .ok (.getfield 19, 3) := dk_180 0 19 (dk_at dksJ16_hashCode_0 1 rfl rfl)
theorem dJ16_hashCode_4 : decode cJ16_hashCode 4 = .ok (.istore_n 1, 1) := dk_60 (dk_at dksJ16_hashCode_0 4 rfl rfl)
theorem dJ16_hashCode_5 : decode cJ16_hashCode 5 = .ok (.iload_n 1, 1) := dk_27 (dk_at dksJ16_hashCode_0 5 rfl rfl)
theorem dJ16_hashCode_6 : decode cJ16_hashCode 6 = .ok (.ifCond .ne 52, 3) := dk_154 0 52 (dk_at dksJ16_hashCode_0 6 rfl rfl)
theorem dJ16_hashCode_9 : decode cJ16_hashCode 9 = .ok (.aload_n 0, 1) := dk_42 (dk_at dksJ16_hashCode_0 9 rfl rfl)
theorem dJ16_hashCode_10 : decode cJ16_hashCode 10 = .ok (.getfield 23, 3) := dk_180 0 23 (dk_at dksJ16_hashCode_0 10 rfl rfl)
theorem dJ16_hashCode_13 : decode cJ16_hashCode 13 = .ok (.ifCond .ne 45, 3) := dk_154 0 45 (dk_at dksJ16_hashCode_0 13 rfl rfl)
theorem dJ16_hashCode_16 : decode cJ16_hashCode 16 = .ok (.aload_n 0, 1) := dk_42 (dk_at dksJ16_hashCode_0 16 rfl rfl)
theorem dJ16_hashCode_17 : decode cJ16_hashCode 17 = .ok (.invokevirtual 492, 3) := dk_182 1 236 (dk_at dksJ16_hashCode_0 17 rfl rfl)
theorem dJ16_hashCode_20 : decode cJ16_hashCode 20 = .ok (.ifCond .eq 13, 3) := dk_153 0 13 (dk_at dksJ16_hashCode_0 20 rfl rfl)
theorem dJ16_hashCode_23 : decode cJ16_hashCode 23 = .ok (.aload_n 0, 1) := dk_42 (dk_at dksJ16_hashCode_0 23 rfl rfl)
theorem dJ16_hashCode_24 : decode cJ16_hashCode 24 = .ok (.getfield 9, 3) := dk_180 0 9 (dk_at dksJ16_hashCode_1 0 rfl rfl)
theorem dJ16_hashCode_27 : decode cJ16_hashCode 27 = .ok (.invokestatic 628, 3) := dk_184 2 116 (dk_at dksJ16_hashCode_1 3 rfl rfl)
theorem dJ16_hashCode_30 : decode cJ16_hashCode 30 = .ok (.goto 10, 3) := dk_167 0 10 (dk_at dksJ16_hashCode_1 6 rfl rfl)
theorem dJ16_hashCode_33 : decode cJ16_hashCode 33 = .ok (.aload_n 0, 1) := dk_42 (dk_at dksJ16_hashCode_1 9 rfl rfl)
theorem dJ16_hashCode_34 : decode cJ16_hashCode 34 = .ok (.getfield 9, 3) := dk_180 0 9 (dk_at dksJ16_hashCode_1 10 rfl rfl)
theorem dJ16_hashCode_37 : decode cJ16_hashCode 37 = .ok (.invokestatic 632, 3) := dk_184 2 120 (dk_at dksJ16_hashCode_1 13 rfl rfl)
theorem dJ16_hashCode_40 : decode cJ16_hashCode 40 = .ok (.istore_n 1, 1) := dk_60 (dk_at dksJ16_hashCode_1 16 rfl rfl)
theorem dJ16_hashCode_41 : decode cJ16_hashCode 41 = .ok (.iload_n 1, 1) := dk_27 (dk_at dksJ16_hashCode_1 17 rfl rfl)
theorem dJ16_hashCode_42 : decode cJ16_hashCode 42 = .ok (.ifCond .ne 11, 3) := dk_154 0 11 (dk_at dksJ16_hashCode_1 18 rfl rfl)
theorem dJ16_hashCode_45 : decode cJ16_hashCode 45 = .ok (.aload_n 0, 1) := dk_42 (dk_at dksJ16_hashCode_1 21 rfl rfl)
theorem dJ16_hashCode_46 : decode cJ16_hashCode 46 = .ok (.iconst 1, 1) := dk_4 (dk_at dksJ16_hashCode_1 22 rfl rfl)
theorem dJ16_hashCode_47 : decode cJ16_hashCode 47 = .ok (.putfield 23, 3) := dk_181 0 23 (dk_at dksJ16_hashCode_2 0 rfl rfl)
theorem dJ16_hashCode_50 : decode cJ16_hashCode 50 = .ok (.goto 8, 3) := dk_167 0 8 (dk_at dksJ16_hashCode_2 3 rfl rfl)
theorem dJ16_hashCode_53 : decode cJ16_hashCode 53 = .ok (.aload_n 0, 1) := dk_42 (dk_at dksJ16_hashCode_2 6 rfl rfl)
theorem dJ16_hashCode_54 : decode cJ16_hashCode 54 = .ok (.iload_n 1, 1) := dk_27 (dk_at dksJ16_hashCode_2 7 rfl rfl)
theorem dJ16_hashCode_55 : decode cJ16_hashCode 55 = .ok (.putfield 19, 3) := dk_181 0 19 (dk_at dksJ16_hashCode_2 8 rfl rfl)
theorem dJ16_hashCode_58 : decode cJ16_hashCode 58 = .ok (.iload_n 1, 1) := dk_27 (dk_at dksJ16_hashCode_2 11 rfl rfl)
theorem dJ16_hashCode_59 : decode cJ16_hashCode 59 = .ok (.ireturn, 1) := dk_172 (dk_at dksJ16_hashCode_2 12 rfl rfl)
abbrev cJ16_isLatin1 : ByteArray := prog_44_method_154_code
def yJ16_isLatin1 : MethodName := ⟨RJ16, "isLatin1", "()Z"⟩
def dkwJ16_isLatin1_0 : List UInt8 := [178, 0, 38, 153, 0, 14, 42, 180, 0, 15, 154, 0, 7, 4, 167, 0, 4, 3, 172]
abbrev dktJ16_isLatin1_0 : List UInt8 := dkwJ16_isLatin1_0 ++ []
theorem dksJ16_isLatin1_0 : cJ16_isLatin1.data.toList.drop 0 = dktJ16_isLatin1_0 := by decide +kernel
theorem dJ16_isLatin1_0 : decode cJ16_isLatin1 0 = .ok (.getstatic 38, 3) := dk_178 0 38 (dk_at dksJ16_isLatin1_0 0 rfl rfl)
theorem dJ16_isLatin1_3 : decode cJ16_isLatin1 3 = .ok (.ifCond .eq 14, 3) := dk_153 0 14 (dk_at dksJ16_isLatin1_0 3 rfl rfl)
theorem dJ16_isLatin1_6 : decode cJ16_isLatin1 6 = .ok (.aload_n 0, 1) := dk_42 (dk_at dksJ16_isLatin1_0 6 rfl rfl)
theorem dJ16_isLatin1_7 : decode cJ16_isLatin1 7 = .ok (.getfield 15, 3) := dk_180 0 15 (dk_at dksJ16_isLatin1_0 7 rfl rfl)
theorem dJ16_isLatin1_10 : decode cJ16_isLatin1 10 = .ok (.ifCond .ne 7, 3) := dk_154 0 7 (dk_at dksJ16_isLatin1_0 10 rfl rfl)
theorem dJ16_isLatin1_13 : decode cJ16_isLatin1 13 = .ok (.iconst 1, 1) := dk_4 (dk_at dksJ16_isLatin1_0 13 rfl rfl)
theorem dJ16_isLatin1_14 : decode cJ16_isLatin1 14 = .ok (.goto 4, 3) := dk_167 0 4 (dk_at dksJ16_isLatin1_0 14 rfl rfl)
theorem dJ16_isLatin1_17 : decode cJ16_isLatin1 17 = .ok (.iconst 0, 1) := dk_3 (dk_at dksJ16_isLatin1_0 17 rfl rfl)
theorem dJ16_isLatin1_18 : decode cJ16_isLatin1 18 = .ok (.ireturn, 1) := dk_172 (dk_at dksJ16_isLatin1_0 18 rfl rfl)
abbrev cJ16_equals : ByteArray := prog_44_method_66_code
def yJ16_equals : MethodName := ⟨RJ16, "equals", "(Ljava/lang/Object;)Z"⟩
def dkwJ16_equals_2 : List UInt8 := [184, 2, 29, 153, 0, 7, 4, 167, 0, 4, 3, 172]
abbrev dktJ16_equals_2 : List UInt8 := dkwJ16_equals_2 ++ []
def dkwJ16_equals_1 : List UInt8 := [153, 0, 14, 42, 180, 0, 15, 44, 180, 0, 15, 160, 0, 21, 42, 180, 0, 9, 44, 180, 0, 9]
abbrev dktJ16_equals_1 : List UInt8 := dkwJ16_equals_1 ++ dktJ16_equals_2
def dkwJ16_equals_0 : List UInt8 := [42, 43, 166, 0, 5, 4, 172, 43, 193, 0, 10, 153, 0, 43, 43, 192, 0, 10, 77, 178, 0, 38]
abbrev dktJ16_equals_0 : List UInt8 := dkwJ16_equals_0 ++ dktJ16_equals_1
theorem dksJ16_equals_0 : cJ16_equals.data.toList.drop 0 = dktJ16_equals_0 := by decide +kernel
theorem dksJ16_equals_1 : cJ16_equals.data.toList.drop 22 = dktJ16_equals_1 := dk_seg dksJ16_equals_0 22 rfl rfl
theorem dksJ16_equals_2 : cJ16_equals.data.toList.drop 44 = dktJ16_equals_2 := dk_seg dksJ16_equals_1 22 rfl rfl
theorem dJ16_equals_0 : decode cJ16_equals 0 = .ok (.aload_n 0, 1) := dk_42 (dk_at dksJ16_equals_0 0 rfl rfl)
theorem dJ16_equals_1 : decode cJ16_equals 1 = .ok (.aload_n 1, 1) := dk_43 (dk_at dksJ16_equals_0 1 rfl rfl)
theorem dJ16_equals_2 : decode cJ16_equals 2 = .ok (.if_acmp .ne 5, 3) := dk_166 0 5 (dk_at dksJ16_equals_0 2 rfl rfl)
theorem dJ16_equals_5 : decode cJ16_equals 5 = .ok (.iconst 1, 1) := dk_4 (dk_at dksJ16_equals_0 5 rfl rfl)
theorem dJ16_equals_6 : decode cJ16_equals 6 = .ok (.ireturn, 1) := dk_172 (dk_at dksJ16_equals_0 6 rfl rfl)
theorem dJ16_equals_7 : decode cJ16_equals 7 = .ok (.aload_n 1, 1) := dk_43 (dk_at dksJ16_equals_0 7 rfl rfl)
theorem dJ16_equals_8 : decode cJ16_equals 8 = .ok (.instanceof 10, 3) := dk_193 0 10 (dk_at dksJ16_equals_0 8 rfl rfl)
theorem dJ16_equals_11 : decode cJ16_equals 11 = .ok (.ifCond .eq 43, 3) := dk_153 0 43 (dk_at dksJ16_equals_0 11 rfl rfl)
theorem dJ16_equals_14 : decode cJ16_equals 14 = .ok (.aload_n 1, 1) := dk_43 (dk_at dksJ16_equals_0 14 rfl rfl)
theorem dJ16_equals_15 : decode cJ16_equals 15 = .ok (.checkcast 10, 3) := dk_192 0 10 (dk_at dksJ16_equals_0 15 rfl rfl)
theorem dJ16_equals_18 : decode cJ16_equals 18 = .ok (.astore_n 2, 1) := dk_77 (dk_at dksJ16_equals_0 18 rfl rfl)
theorem dJ16_equals_19 : decode cJ16_equals 19 = .ok (.getstatic 38, 3) := dk_178 0 38 (dk_at dksJ16_equals_0 19 rfl rfl)
theorem dJ16_equals_22 : decode cJ16_equals 22 = .ok (.ifCond .eq 14, 3) := dk_153 0 14 (dk_at dksJ16_equals_1 0 rfl rfl)
theorem dJ16_equals_25 : decode cJ16_equals 25 = .ok (.aload_n 0, 1) := dk_42 (dk_at dksJ16_equals_1 3 rfl rfl)
theorem dJ16_equals_26 : decode cJ16_equals 26 = .ok (.getfield 15, 3) := dk_180 0 15 (dk_at dksJ16_equals_1 4 rfl rfl)
theorem dJ16_equals_29 : decode cJ16_equals 29 = .ok (.aload_n 2, 1) := dk_44 (dk_at dksJ16_equals_1 7 rfl rfl)
theorem dJ16_equals_30 : decode cJ16_equals 30 = .ok (.getfield 15, 3) := dk_180 0 15 (dk_at dksJ16_equals_1 8 rfl rfl)
theorem dJ16_equals_33 : decode cJ16_equals 33 = .ok (.if_icmp .ne 21, 3) := dk_160 0 21 (dk_at dksJ16_equals_1 11 rfl rfl)
theorem dJ16_equals_36 : decode cJ16_equals 36 = .ok (.aload_n 0, 1) := dk_42 (dk_at dksJ16_equals_1 14 rfl rfl)
theorem dJ16_equals_37 : decode cJ16_equals 37 = .ok (.getfield 9, 3) := dk_180 0 9 (dk_at dksJ16_equals_1 15 rfl rfl)
theorem dJ16_equals_40 : decode cJ16_equals 40 = .ok (.aload_n 2, 1) := dk_44 (dk_at dksJ16_equals_1 18 rfl rfl)
theorem dJ16_equals_41 : decode cJ16_equals 41 = .ok (.getfield 9, 3) := dk_180 0 9 (dk_at dksJ16_equals_1 19 rfl rfl)
theorem dJ16_equals_44 : decode cJ16_equals 44 = .ok (.invokestatic 541, 3) := dk_184 2 29 (dk_at dksJ16_equals_2 0 rfl rfl)
theorem dJ16_equals_47 : decode cJ16_equals 47 = .ok (.ifCond .eq 7, 3) := dk_153 0 7 (dk_at dksJ16_equals_2 3 rfl rfl)
theorem dJ16_equals_50 : decode cJ16_equals 50 = .ok (.iconst 1, 1) := dk_4 (dk_at dksJ16_equals_2 6 rfl rfl)
theorem dJ16_equals_51 : decode cJ16_equals 51 = .ok (.goto 4, 3) := dk_167 0 4 (dk_at dksJ16_equals_2 7 rfl rfl)
theorem dJ16_equals_54 : decode cJ16_equals 54 = .ok (.iconst 0, 1) := dk_3 (dk_at dksJ16_equals_2 10 rfl rfl)
theorem dJ16_equals_55 : decode cJ16_equals 55 = .ok (.ireturn, 1) := dk_172 (dk_at dksJ16_equals_2 11 rfl rfl)
abbrev cJ16_compareTo : ByteArray := prog_44_method_162_code
def yJ16_compareTo : MethodName := ⟨RJ16, "compareTo", "(Ljava/lang/Object;)I"⟩
def dkwJ16_compareTo_0 : List UInt8 := [42, 43, 192, 0, 10, 182, 4, 60, 172]
abbrev dktJ16_compareTo_0 : List UInt8 := dkwJ16_compareTo_0 ++ []
theorem dksJ16_compareTo_0 : cJ16_compareTo.data.toList.drop 0 = dktJ16_compareTo_0 := by decide +kernel
theorem dJ16_compareTo_0 : decode cJ16_compareTo 0 = .ok (.aload_n 0, 1) := dk_42 (dk_at dksJ16_compareTo_0 0 rfl rfl)
theorem dJ16_compareTo_1 : decode cJ16_compareTo 1 = .ok (.aload_n 1, 1) := dk_43 (dk_at dksJ16_compareTo_0 1 rfl rfl)
theorem dJ16_compareTo_2 : decode cJ16_compareTo 2 = .ok (.checkcast 10, 3) := dk_192 0 10 (dk_at dksJ16_compareTo_0 2 rfl rfl)
theorem dJ16_compareTo_5 : decode cJ16_compareTo 5 = .ok (.invokevirtual 1084, 3) := dk_182 4 60 (dk_at dksJ16_compareTo_0 5 rfl rfl)
theorem dJ16_compareTo_8 : decode cJ16_compareTo 8 = .ok (.ireturn, 1) := dk_172 (dk_at dksJ16_compareTo_0 8 rfl rfl)
abbrev cJ16_compareTo_2 : ByteArray := prog_44_method_71_code
def yJ16_compareTo_2 : MethodName := ⟨RJ16, "compareTo", "(Ljava/lang/String;)I"⟩
def dkwJ16_compareTo_2_2 : List UInt8 := [154, 0, 11, 44, 45, 184, 2, 79, 167, 0, 8, 44, 45, 184, 2, 82, 172]
abbrev dktJ16_compareTo_2_2 : List UInt8 := dkwJ16_compareTo_2_2 ++ []
def dkwJ16_compareTo_2_1 : List UInt8 := [160, 0, 22, 21, 4, 154, 0, 11, 44, 45, 184, 2, 74, 167, 0, 8, 44, 45, 184, 2, 78, 172, 21, 4]
abbrev dktJ16_compareTo_2_1 : List UInt8 := dkwJ16_compareTo_2_1 ++ dktJ16_compareTo_2_2
def dkwJ16_compareTo_2_0 : List UInt8 := [42, 180, 0, 9, 77, 43, 180, 0, 9, 78, 42, 182, 1, 79, 54, 4, 21, 4, 43, 182, 1, 79]
abbrev dktJ16_compareTo_2_0 : List UInt8 := dkwJ16_compareTo_2_0 ++ dktJ16_compareTo_2_1
theorem dksJ16_compareTo_2_0 : cJ16_compareTo_2.data.toList.drop 0 = dktJ16_compareTo_2_0 := by decide +kernel
theorem dksJ16_compareTo_2_1 : cJ16_compareTo_2.data.toList.drop 22 = dktJ16_compareTo_2_1 := dk_seg dksJ16_compareTo_2_0 22 rfl rfl
theorem dksJ16_compareTo_2_2 : cJ16_compareTo_2.data.toList.drop 46 = dktJ16_compareTo_2_2 := dk_seg dksJ16_compareTo_2_1 24 rfl rfl
theorem dJ16_compareTo_2_0 : decode cJ16_compareTo_2 0 = .ok (.aload_n 0, 1) := dk_42 (dk_at dksJ16_compareTo_2_0 0 rfl rfl)
theorem dJ16_compareTo_2_1 : decode cJ16_compareTo_2 1 = .ok (.getfield 9, 3) := dk_180 0 9 (dk_at dksJ16_compareTo_2_0 1 rfl rfl)
theorem dJ16_compareTo_2_4 : decode cJ16_compareTo_2 4 = .ok (.astore_n 2, 1) := dk_77 (dk_at dksJ16_compareTo_2_0 4 rfl rfl)
theorem dJ16_compareTo_2_5 : decode cJ16_compareTo_2 5 = .ok (.aload_n 1, 1) := dk_43 (dk_at dksJ16_compareTo_2_0 5 rfl rfl)
theorem dJ16_compareTo_2_6 : decode cJ16_compareTo_2 6 = .ok (.getfield 9, 3) := dk_180 0 9 (dk_at dksJ16_compareTo_2_0 6 rfl rfl)
theorem dJ16_compareTo_2_9 : decode cJ16_compareTo_2 9 = .ok (.astore_n 3, 1) := dk_78 (dk_at dksJ16_compareTo_2_0 9 rfl rfl)
theorem dJ16_compareTo_2_10 : decode cJ16_compareTo_2 10 = .ok (.aload_n 0, 1) := dk_42 (dk_at dksJ16_compareTo_2_0 10 rfl rfl)
theorem dJ16_compareTo_2_11 : decode cJ16_compareTo_2 11 = .ok (.invokevirtual 335, 3) := dk_182 1 79 (dk_at dksJ16_compareTo_2_0 11 rfl rfl)
theorem dJ16_compareTo_2_14 : decode cJ16_compareTo_2 14 = .ok (.istore 4, 2) := dk_54 4 (dk_at dksJ16_compareTo_2_0 14 rfl rfl)
theorem dJ16_compareTo_2_16 : decode cJ16_compareTo_2 16 = .ok (.iload 4, 2) := dk_21 4 (dk_at dksJ16_compareTo_2_0 16 rfl rfl)
theorem dJ16_compareTo_2_18 : decode cJ16_compareTo_2 18 = .ok (.aload_n 1, 1) := dk_43 (dk_at dksJ16_compareTo_2_0 18 rfl rfl)
theorem dJ16_compareTo_2_19 : decode cJ16_compareTo_2 19 = .ok (.invokevirtual 335, 3) := dk_182 1 79 (dk_at dksJ16_compareTo_2_0 19 rfl rfl)
theorem dJ16_compareTo_2_22 : decode cJ16_compareTo_2 22 = .ok (.if_icmp .ne 22, 3) := dk_160 0 22 (dk_at dksJ16_compareTo_2_1 0 rfl rfl)
theorem dJ16_compareTo_2_25 : decode cJ16_compareTo_2 25 = .ok (.iload 4, 2) := dk_21 4 (dk_at dksJ16_compareTo_2_1 3 rfl rfl)
theorem dJ16_compareTo_2_27 : decode cJ16_compareTo_2 27 = .ok (.ifCond .ne 11, 3) := dk_154 0 11 (dk_at dksJ16_compareTo_2_1 5 rfl rfl)
theorem dJ16_compareTo_2_30 : decode cJ16_compareTo_2 30 = .ok (.aload_n 2, 1) := dk_44 (dk_at dksJ16_compareTo_2_1 8 rfl rfl)
theorem dJ16_compareTo_2_31 : decode cJ16_compareTo_2 31 = .ok (.aload_n 3, 1) := dk_45 (dk_at dksJ16_compareTo_2_1 9 rfl rfl)
theorem dJ16_compareTo_2_32 : decode cJ16_compareTo_2 32 = .ok (.invokestatic 586, 3) := dk_184 2 74 (dk_at dksJ16_compareTo_2_1 10 rfl rfl)
theorem dJ16_compareTo_2_35 : decode cJ16_compareTo_2 35 = .ok (.goto 8, 3) := dk_167 0 8 (dk_at dksJ16_compareTo_2_1 13 rfl rfl)
theorem dJ16_compareTo_2_38 : decode cJ16_compareTo_2 38 = .ok (.aload_n 2, 1) := dk_44 (dk_at dksJ16_compareTo_2_1 16 rfl rfl)
theorem dJ16_compareTo_2_39 : decode cJ16_compareTo_2 39 = .ok (.aload_n 3, 1) := dk_45 (dk_at dksJ16_compareTo_2_1 17 rfl rfl)
theorem dJ16_compareTo_2_40 : decode cJ16_compareTo_2 40 = .ok (.invokestatic 590, 3) := dk_184 2 78 (dk_at dksJ16_compareTo_2_1 18 rfl rfl)
theorem dJ16_compareTo_2_43 : decode cJ16_compareTo_2 43 = .ok (.ireturn, 1) := dk_172 (dk_at dksJ16_compareTo_2_1 21 rfl rfl)
theorem dJ16_compareTo_2_44 : decode cJ16_compareTo_2 44 = .ok (.iload 4, 2) := dk_21 4 (dk_at dksJ16_compareTo_2_1 22 rfl rfl)
theorem dJ16_compareTo_2_46 : decode cJ16_compareTo_2 46 = .ok (.ifCond .ne 11, 3) := dk_154 0 11 (dk_at dksJ16_compareTo_2_2 0 rfl rfl)
theorem dJ16_compareTo_2_49 : decode cJ16_compareTo_2 49 = .ok (.aload_n 2, 1) := dk_44 (dk_at dksJ16_compareTo_2_2 3 rfl rfl)
theorem dJ16_compareTo_2_50 : decode cJ16_compareTo_2 50 = .ok (.aload_n 3, 1) := dk_45 (dk_at dksJ16_compareTo_2_2 4 rfl rfl)
theorem dJ16_compareTo_2_51 : decode cJ16_compareTo_2 51 = .ok (.invokestatic 591, 3) := dk_184 2 79 (dk_at dksJ16_compareTo_2_2 5 rfl rfl)
theorem dJ16_compareTo_2_54 : decode cJ16_compareTo_2 54 = .ok (.goto 8, 3) := dk_167 0 8 (dk_at dksJ16_compareTo_2_2 8 rfl rfl)
theorem dJ16_compareTo_2_57 : decode cJ16_compareTo_2 57 = .ok (.aload_n 2, 1) := dk_44 (dk_at dksJ16_compareTo_2_2 11 rfl rfl)
theorem dJ16_compareTo_2_58 : decode cJ16_compareTo_2 58 = .ok (.aload_n 3, 1) := dk_45 (dk_at dksJ16_compareTo_2_2 12 rfl rfl)
theorem dJ16_compareTo_2_59 : decode cJ16_compareTo_2 59 = .ok (.invokestatic 594, 3) := dk_184 2 82 (dk_at dksJ16_compareTo_2_2 13 rfl rfl)
theorem dJ16_compareTo_2_62 : decode cJ16_compareTo_2 62 = .ok (.ireturn, 1) := dk_172 (dk_at dksJ16_compareTo_2_2 16 rfl rfl)
abbrev cJ16_checkOffset : ByteArray := prog_44_method_156_code
def yJ16_checkOffset : MethodName := ⟨RJ16, "checkOffset", "(II)V"⟩
def dkwJ16_checkOffset_0 : List UInt8 := [26, 27, 27, 178, 4, 29, 184, 4, 38, 87, 177]
abbrev dktJ16_checkOffset_0 : List UInt8 := dkwJ16_checkOffset_0 ++ []
theorem dksJ16_checkOffset_0 : cJ16_checkOffset.data.toList.drop 0 = dktJ16_checkOffset_0 := by decide +kernel
theorem dJ16_checkOffset_0 : decode cJ16_checkOffset 0 = .ok (.iload_n 0, 1) := dk_26 (dk_at dksJ16_checkOffset_0 0 rfl rfl)
theorem dJ16_checkOffset_1 : decode cJ16_checkOffset 1 = .ok (.iload_n 1, 1) := dk_27 (dk_at dksJ16_checkOffset_0 1 rfl rfl)
theorem dJ16_checkOffset_2 : decode cJ16_checkOffset 2 = .ok (.iload_n 1, 1) := dk_27 (dk_at dksJ16_checkOffset_0 2 rfl rfl)
theorem dJ16_checkOffset_3 : decode cJ16_checkOffset 3 = .ok (.getstatic 1053, 3) := dk_178 4 29 (dk_at dksJ16_checkOffset_0 3 rfl rfl)
theorem dJ16_checkOffset_6 : decode cJ16_checkOffset 6 = .ok (.invokestatic 1062, 3) := dk_184 4 38 (dk_at dksJ16_checkOffset_0 6 rfl rfl)
theorem dJ16_checkOffset_9 : decode cJ16_checkOffset 9 = .ok (.pop, 1) := dk_87 (dk_at dksJ16_checkOffset_0 9 rfl rfl)
theorem dJ16_checkOffset_10 : decode cJ16_checkOffset 10 = .ok (.return_, 1) := dk_177 (dk_at dksJ16_checkOffset_0 10 rfl rfl)
abbrev cJ16_indexOf : ByteArray := prog_44_method_79_code
def yJ16_indexOf : MethodName := ⟨RJ16, "indexOf", "(I)I"⟩
def dkwJ16_indexOf_0 : List UInt8 := [42, 27, 3, 182, 2, 121, 172]
abbrev dktJ16_indexOf_0 : List UInt8 := dkwJ16_indexOf_0 ++ []
theorem dksJ16_indexOf_0 : cJ16_indexOf.data.toList.drop 0 = dktJ16_indexOf_0 := by decide +kernel
theorem dJ16_indexOf_0 : decode cJ16_indexOf 0 = .ok (.aload_n 0, 1) := dk_42 (dk_at dksJ16_indexOf_0 0 rfl rfl)
theorem dJ16_indexOf_1 : decode cJ16_indexOf 1 = .ok (.iload_n 1, 1) := dk_27 (dk_at dksJ16_indexOf_0 1 rfl rfl)
theorem dJ16_indexOf_2 : decode cJ16_indexOf 2 = .ok (.iconst 0, 1) := dk_3 (dk_at dksJ16_indexOf_0 2 rfl rfl)
theorem dJ16_indexOf_3 : decode cJ16_indexOf 3 = .ok (.invokevirtual 633, 3) := dk_182 2 121 (dk_at dksJ16_indexOf_0 3 rfl rfl)
theorem dJ16_indexOf_6 : decode cJ16_indexOf 6 = .ok (.ireturn, 1) := dk_172 (dk_at dksJ16_indexOf_0 6 rfl rfl)
abbrev cJ16_indexOf_2 : ByteArray := prog_44_method_80_code
def yJ16_indexOf_2 : MethodName := ⟨RJ16, "indexOf", "(II)I"⟩
def dkwJ16_indexOf_2_1 : List UInt8 := [180, 0, 9, 27, 28, 42, 182, 1, 249, 184, 2, 128, 172]
abbrev dktJ16_indexOf_2_1 : List UInt8 := dkwJ16_indexOf_2_1 ++ []
def dkwJ16_indexOf_2_0 : List UInt8 := [42, 182, 1, 236, 153, 0, 19, 42, 180, 0, 9, 27, 28, 42, 182, 1, 249, 184, 2, 125, 167, 0, 16, 42]
abbrev dktJ16_indexOf_2_0 : List UInt8 := dkwJ16_indexOf_2_0 ++ dktJ16_indexOf_2_1
theorem dksJ16_indexOf_2_0 : cJ16_indexOf_2.data.toList.drop 0 = dktJ16_indexOf_2_0 := by decide +kernel
theorem dksJ16_indexOf_2_1 : cJ16_indexOf_2.data.toList.drop 24 = dktJ16_indexOf_2_1 := dk_seg dksJ16_indexOf_2_0 24 rfl rfl
theorem dJ16_indexOf_2_0 : decode cJ16_indexOf_2 0 = .ok (.aload_n 0, 1) := dk_42 (dk_at dksJ16_indexOf_2_0 0 rfl rfl)
theorem dJ16_indexOf_2_1 : decode cJ16_indexOf_2 1 = .ok (.invokevirtual 492, 3) := dk_182 1 236 (dk_at dksJ16_indexOf_2_0 1 rfl rfl)
theorem dJ16_indexOf_2_4 : decode cJ16_indexOf_2 4 = .ok (.ifCond .eq 19, 3) := dk_153 0 19 (dk_at dksJ16_indexOf_2_0 4 rfl rfl)
theorem dJ16_indexOf_2_7 : decode cJ16_indexOf_2 7 = .ok (.aload_n 0, 1) := dk_42 (dk_at dksJ16_indexOf_2_0 7 rfl rfl)
theorem dJ16_indexOf_2_8 : decode cJ16_indexOf_2 8 = .ok (.getfield 9, 3) := dk_180 0 9 (dk_at dksJ16_indexOf_2_0 8 rfl rfl)
theorem dJ16_indexOf_2_11 : decode cJ16_indexOf_2 11 = .ok (.iload_n 1, 1) := dk_27 (dk_at dksJ16_indexOf_2_0 11 rfl rfl)
theorem dJ16_indexOf_2_12 : decode cJ16_indexOf_2 12 = .ok (.iload_n 2, 1) := dk_28 (dk_at dksJ16_indexOf_2_0 12 rfl rfl)
theorem dJ16_indexOf_2_13 : decode cJ16_indexOf_2 13 = .ok (.aload_n 0, 1) := dk_42 (dk_at dksJ16_indexOf_2_0 13 rfl rfl)
theorem dJ16_indexOf_2_14 : decode cJ16_indexOf_2 14 = .ok (.invokevirtual 505, 3) := dk_182 1 249 (dk_at dksJ16_indexOf_2_0 14 rfl rfl)
theorem dJ16_indexOf_2_17 : decode cJ16_indexOf_2 17 = .ok (.invokestatic 637, 3) := dk_184 2 125 (dk_at dksJ16_indexOf_2_0 17 rfl rfl)
theorem dJ16_indexOf_2_20 : decode cJ16_indexOf_2 20 = .ok (.goto 16, 3) := dk_167 0 16 (dk_at dksJ16_indexOf_2_0 20 rfl rfl)
theorem dJ16_indexOf_2_23 : decode cJ16_indexOf_2 23 = .ok (.aload_n 0, 1) := dk_42 (dk_at dksJ16_indexOf_2_0 23 rfl rfl)
theorem dJ16_indexOf_2_24 : decode cJ16_indexOf_2 24 = .ok (.getfield 9, 3) := dk_180 0 9 (dk_at dksJ16_indexOf_2_1 0 rfl rfl)
theorem dJ16_indexOf_2_27 : decode cJ16_indexOf_2 27 = .ok (.iload_n 1, 1) := dk_27 (dk_at dksJ16_indexOf_2_1 3 rfl rfl)
theorem dJ16_indexOf_2_28 : decode cJ16_indexOf_2 28 = .ok (.iload_n 2, 1) := dk_28 (dk_at dksJ16_indexOf_2_1 4 rfl rfl)
theorem dJ16_indexOf_2_29 : decode cJ16_indexOf_2 29 = .ok (.aload_n 0, 1) := dk_42 (dk_at dksJ16_indexOf_2_1 5 rfl rfl)
theorem dJ16_indexOf_2_30 : decode cJ16_indexOf_2 30 = .ok (.invokevirtual 505, 3) := dk_182 1 249 (dk_at dksJ16_indexOf_2_1 6 rfl rfl)
theorem dJ16_indexOf_2_33 : decode cJ16_indexOf_2 33 = .ok (.invokestatic 640, 3) := dk_184 2 128 (dk_at dksJ16_indexOf_2_1 9 rfl rfl)
theorem dJ16_indexOf_2_36 : decode cJ16_indexOf_2 36 = .ok (.ireturn, 1) := dk_172 (dk_at dksJ16_indexOf_2_1 12 rfl rfl)
theorem q99 : (Jvm.Cond.initialized "java/lang/String") ∈ lw_all := lw_g (lw_at lw_m1 23 rfl) rfl
theorem q395 : (Jvm.Cond.laysStatic "java/lang/String" "COMPACT_STRINGS" "Z") ∈ lw_tbl := lw_at lw_m2 79 rfl
theorem q405 : (Jvm.Cond.fieldLink "java/lang/String" (1048 : Nat) "java/lang/AbstractStringBuilder" "maybeLatin1" "Z") ∈ lw_all := lw_g (lw_at lw_m2 89 rfl) rfl
theorem q479 : (Jvm.Cond.static ({ cls := "java/lang/String", name := "checkBoundsBeginEnd", desc := "(III)V" } : Jvm.MethodName)) ∈ lw_all := lw_g (lw_at lw_m2 163 rfl) rfl
theorem q480 : (Jvm.Cond.code ({ cls := "java/lang/String", name := "checkBoundsBeginEnd", desc := "(III)V" } : Jvm.MethodName) prog_44_method_158_code (3 : Nat) (Option.none : Option Jvm.ClassFile.FieldType)) ∈ lw_all := lw_g (lw_at lw_m2 164 rfl) rfl
theorem q481 : (Jvm.Cond.fieldLink "java/lang/String" (1053 : Nat) "jdk/internal/util/Preconditions" "SIOOBE_FORMATTER" "Ljava/util/function/BiFunction;") ∈ lw_all := lw_g (lw_at lw_m2 165 rfl) rfl
theorem q483 : (Jvm.Cond.methodLink "java/lang/String" (1062 : Nat) ({ cls := "jdk/internal/util/Preconditions", name := "checkFromToIndex", desc := "(IIILjava/util/function/BiFunction;)I" } : Jvm.MethodName)) ∈ lw_all := lw_g (lw_at lw_m2 167 rfl) rfl
theorem q496 : (Jvm.Cond.instanceMethod ({ cls := "java/lang/String", name := "length", desc := "()I" } : Jvm.MethodName)) ∈ lw_all := lw_g (lw_at lw_m2 180 rfl) rfl
theorem q497 : (Jvm.Cond.selects "java/lang/String" ({ cls := "java/lang/String", name := "length", desc := "()I" } : Jvm.MethodName) ({ cls := "java/lang/String", name := "length", desc := "()I" } : Jvm.MethodName)) ∈ lw_all := lw_g (lw_at lw_m2 181 rfl) rfl
theorem q498 : (Jvm.Cond.code ({ cls := "java/lang/String", name := "length", desc := "()I" } : Jvm.MethodName) prog_44_method_54_code (1 : Nat) (Option.some Jvm.ClassFile.FieldType.int)) ∈ lw_all := lw_g (lw_at lw_m2 182 rfl) rfl
theorem q499 : (Jvm.Cond.methodLink "java/lang/String" (335 : Nat) ({ cls := "java/lang/String", name := "coder", desc := "()B" } : Jvm.MethodName)) ∈ lw_all := lw_g (lw_at lw_m2 183 rfl) rfl
theorem q500 : (Jvm.Cond.instanceMethod ({ cls := "java/lang/String", name := "coder", desc := "()B" } : Jvm.MethodName)) ∈ lw_all := lw_g (lw_at lw_m2 184 rfl) rfl
theorem q501 : (Jvm.Cond.selects "java/lang/String" ({ cls := "java/lang/String", name := "coder", desc := "()B" } : Jvm.MethodName) ({ cls := "java/lang/String", name := "coder", desc := "()B" } : Jvm.MethodName)) ∈ lw_all := lw_g (lw_at lw_m2 185 rfl) rfl
theorem q502 : (Jvm.Cond.code ({ cls := "java/lang/String", name := "coder", desc := "()B" } : Jvm.MethodName) prog_44_method_152_code (1 : Nat) (Option.some Jvm.ClassFile.FieldType.byte)) ∈ lw_all := lw_g (lw_at lw_m2 186 rfl) rfl
theorem q503 : (Jvm.Cond.fieldLink "java/lang/String" (38 : Nat) "java/lang/String" "COMPACT_STRINGS" "Z") ∈ lw_all := lw_g (lw_at lw_m2 187 rfl) rfl
theorem q527 : (Jvm.Cond.static ({ cls := "java/lang/String", name := "checkBoundsOffCount", desc := "(III)I" } : Jvm.MethodName)) ∈ lw_all := lw_g (lw_at lw_m2 211 rfl) rfl
theorem q528 : (Jvm.Cond.code ({ cls := "java/lang/String", name := "checkBoundsOffCount", desc := "(III)I" } : Jvm.MethodName) prog_44_method_157_code (3 : Nat) (Option.some Jvm.ClassFile.FieldType.int)) ∈ lw_all := lw_g (lw_at lw_m2 212 rfl) rfl
theorem q529 : (Jvm.Cond.methodLink "java/lang/String" (1065 : Nat) ({ cls := "jdk/internal/util/Preconditions", name := "checkFromIndexSize", desc := "(IIILjava/util/function/BiFunction;)I" } : Jvm.MethodName)) ∈ lw_all := lw_g (lw_at lw_m2 213 rfl) rfl
theorem q533 : (Jvm.Cond.instanceMethod ({ cls := "java/lang/String", name := "getBytes", desc := "([BIB)V" } : Jvm.MethodName)) ∈ lw_all := lw_g (lw_at lw_m2 217 rfl) rfl
theorem q534 : (Jvm.Cond.selects "java/lang/String" ({ cls := "java/lang/String", name := "getBytes", desc := "([BIB)V" } : Jvm.MethodName) ({ cls := "java/lang/String", name := "getBytes", desc := "([BIB)V" } : Jvm.MethodName)) ∈ lw_all := lw_g (lw_at lw_m2 218 rfl) rfl
theorem q535 : (Jvm.Cond.code ({ cls := "java/lang/String", name := "getBytes", desc := "([BIB)V" } : Jvm.MethodName) prog_44_method_147_code (4 : Nat) (Option.none : Option Jvm.ClassFile.FieldType)) ∈ lw_all := lw_g (lw_at lw_m2 219 rfl) rfl
theorem q536 : (Jvm.Cond.methodLink "java/lang/String" (212 : Nat) ({ cls := "java/lang/System", name := "arraycopy", desc := "(Ljava/lang/Object;ILjava/lang/Object;II)V" } : Jvm.MethodName)) ∈ lw_all := lw_g (lw_at lw_m2 220 rfl) rfl
theorem q537 : (Jvm.Cond.methodLink "java/lang/String" (106 : Nat) ({ cls := "java/lang/StringLatin1", name := "inflate", desc := "([BI[BII)V" } : Jvm.MethodName)) ∈ lw_all := lw_g (lw_at lw_m2 221 rfl) rfl
theorem q568 : (Jvm.Cond.instantiable "java/lang/String" (4 : Nat)) ∈ lw_all := lw_g (lw_at lw_m3 12 rfl) rfl
theorem q570 : (Jvm.Cond.instanceMethod ({ cls := "java/lang/String", name := "<init>", desc := "(Ljava/lang/StringBuilder;)V" } : Jvm.MethodName)) ∈ lw_all := lw_g (lw_at lw_m3 14 rfl) rfl
theorem q571 : (Jvm.Cond.code ({ cls := "java/lang/String", name := "<init>", desc := "(Ljava/lang/StringBuilder;)V" } : Jvm.MethodName) prog_44_method_53_code (2 : Nat) (Option.none : Option Jvm.ClassFile.FieldType)) ∈ lw_all := lw_g (lw_at lw_m3 15 rfl) rfl
theorem q572 : (Jvm.Cond.methodLink "java/lang/String" (489 : Nat) ({ cls := "java/lang/String", name := "<init>", desc := "(Ljava/lang/AbstractStringBuilder;Ljava/lang/Void;)V" } : Jvm.MethodName)) ∈ lw_all := lw_g (lw_at lw_m3 16 rfl) rfl
theorem q573 : (Jvm.Cond.instanceMethod ({ cls := "java/lang/String", name := "<init>", desc := "(Ljava/lang/AbstractStringBuilder;Ljava/lang/Void;)V" } : Jvm.MethodName)) ∈ lw_all := lw_g (lw_at lw_m3 17 rfl) rfl
theorem q574 : (Jvm.Cond.code ({ cls := "java/lang/String", name := "<init>", desc := "(Ljava/lang/AbstractStringBuilder;Ljava/lang/Void;)V" } : Jvm.MethodName) prog_44_method_150_code (5 : Nat) (Option.none : Option Jvm.ClassFile.FieldType)) ∈ lw_all := lw_g (lw_at lw_m3 18 rfl) rfl
theorem q575 : (Jvm.Cond.methodLink "java/lang/String" (1 : Nat) ({ cls := "java/lang/Object", name := "<init>", desc := "()V" } : Jvm.MethodName)) ∈ lw_all := lw_g (lw_at lw_m3 19 rfl) rfl
theorem q576 : (Jvm.Cond.methodLink "java/lang/String" (552 : Nat) ({ cls := "java/lang/AbstractStringBuilder", name := "getValue", desc := "()[B" } : Jvm.MethodName)) ∈ lw_all := lw_g (lw_at lw_m3 20 rfl) rfl
theorem q581 : (Jvm.Cond.methodLink "java/lang/String" (549 : Nat) ({ cls := "java/lang/AbstractStringBuilder", name := "length", desc := "()I" } : Jvm.MethodName)) ∈ lw_all := lw_g (lw_at lw_m3 25 rfl) rfl
theorem q589 : (Jvm.Cond.methodLink "java/lang/String" (1047 : Nat) ({ cls := "java/lang/AbstractStringBuilder", name := "isLatin1", desc := "()Z" } : Jvm.MethodName)) ∈ lw_all := lw_g (lw_at lw_m3 33 rfl) rfl
theorem q590 : (Jvm.Cond.methodLink "java/lang/String" (54 : Nat) ({ cls := "java/util/Arrays", name := "copyOfRange", desc := "([BII)[B" } : Jvm.MethodName)) ∈ lw_all := lw_g (lw_at lw_m3 34 rfl) rfl
theorem q639 : (Jvm.Cond.methodLink "java/lang/String" (1051 : Nat) ({ cls := "java/lang/StringUTF16", name := "compress", desc := "([BII)[B" } : Jvm.MethodName)) ∈ lw_all := lw_g (lw_at lw_m3 83 rfl) rfl
theorem q649 : (Jvm.Cond.methodLink "java/lang/String" (47 : Nat) ({ cls := "java/lang/StringUTF16", name := "coderFromArrayLen", desc := "([BI)B" } : Jvm.MethodName)) ∈ lw_all := lw_g (lw_at lw_m3 93 rfl) rfl
theorem q652 : (Jvm.Cond.fieldLink "java/lang/String" (9 : Nat) "java/lang/String" "value" "[B") ∈ lw_all := lw_g (lw_at lw_m3 96 rfl) rfl
theorem q653 : (Jvm.Cond.fieldLink "java/lang/String" (15 : Nat) "java/lang/String" "coder" "B") ∈ lw_all := lw_g (lw_at lw_m3 97 rfl) rfl
theorem q654 : (Jvm.Cond.fieldLink "java/lang/String" (19 : Nat) "java/lang/String" "hash" "I") ∈ lw_all := lw_g (lw_at lw_m3 98 rfl) rfl
theorem q655 : (Jvm.Cond.fieldLink "java/lang/String" (23 : Nat) "java/lang/String" "hashIsZero" "Z") ∈ lw_all := lw_g (lw_at lw_m3 99 rfl) rfl
theorem q656 : (Jvm.Cond.laysFinal "java/lang/String" "java/lang/String" "value" "[B") ∈ lw_all := lw_g (lw_at lw_m3 100 rfl) rfl
theorem q657 : (Jvm.Cond.soleField "java/lang/String" "value") ∈ lw_all := lw_g (lw_at lw_m3 101 rfl) rfl
theorem q658 : (Jvm.Cond.laysFinal "java/lang/String" "java/lang/String" "coder" "B") ∈ lw_all := lw_g (lw_at lw_m3 102 rfl) rfl
theorem q659 : (Jvm.Cond.soleField "java/lang/String" "coder") ∈ lw_all := lw_g (lw_at lw_m3 103 rfl) rfl
theorem q660 : (Jvm.Cond.lays "java/lang/String" "java/lang/String" "hash" "I") ∈ lw_all := lw_g (lw_at lw_m3 104 rfl) rfl
theorem q661 : (Jvm.Cond.soleField "java/lang/String" "hash") ∈ lw_all := lw_g (lw_at lw_m3 105 rfl) rfl
theorem q662 : (Jvm.Cond.lays "java/lang/String" "java/lang/String" "hashIsZero" "Z") ∈ lw_all := lw_g (lw_at lw_m3 106 rfl) rfl
theorem q663 : (Jvm.Cond.soleField "java/lang/String" "hashIsZero") ∈ lw_all := lw_g (lw_at lw_m3 107 rfl) rfl
theorem q664 : (Jvm.Cond.superclass "java/lang/String" "java/lang/Object") ∈ lw_all := lw_g (lw_at lw_m3 108 rfl) rfl
theorem q760 : (Jvm.Cond.selects "java/lang/String" ({ cls := "java/lang/Object", name := "getClass", desc := "()Ljava/lang/Class;" } : Jvm.MethodName) ({ cls := "java/lang/Object", name := "getClass", desc := "()Ljava/lang/Class;" } : Jvm.MethodName)) ∈ lw_all := lw_g (lw_at lw_m3 204 rfl) rfl
theorem q1297 : (Jvm.Cond.selects "java/lang/String" ({ cls := "java/lang/Object", name := "hashCode", desc := "()I" } : Jvm.MethodName) ({ cls := "java/lang/String", name := "hashCode", desc := "()I" } : Jvm.MethodName)) ∈ lw_all := lw_g (lw_at lw_m6 21 rfl) rfl
theorem q1298 : (Jvm.Cond.instanceMethod ({ cls := "java/lang/String", name := "hashCode", desc := "()I" } : Jvm.MethodName)) ∈ lw_all := lw_g (lw_at lw_m6 22 rfl) rfl
theorem q1299 : (Jvm.Cond.code ({ cls := "java/lang/String", name := "hashCode", desc := "()I" } : Jvm.MethodName) prog_44_method_78_code (2 : Nat) (Option.some Jvm.ClassFile.FieldType.int)) ∈ lw_all := lw_g (lw_at lw_m6 23 rfl) rfl
theorem q1300 : (Jvm.Cond.methodLink "java/lang/String" (492 : Nat) ({ cls := "java/lang/String", name := "isLatin1", desc := "()Z" } : Jvm.MethodName)) ∈ lw_all := lw_g (lw_at lw_m6 24 rfl) rfl
theorem q1301 : (Jvm.Cond.instanceMethod ({ cls := "java/lang/String", name := "isLatin1", desc := "()Z" } : Jvm.MethodName)) ∈ lw_all := lw_g (lw_at lw_m6 25 rfl) rfl
theorem q1302 : (Jvm.Cond.selects "java/lang/String" ({ cls := "java/lang/String", name := "isLatin1", desc := "()Z" } : Jvm.MethodName) ({ cls := "java/lang/String", name := "isLatin1", desc := "()Z" } : Jvm.MethodName)) ∈ lw_all := lw_g (lw_at lw_m6 26 rfl) rfl
theorem q1303 : (Jvm.Cond.code ({ cls := "java/lang/String", name := "isLatin1", desc := "()Z" } : Jvm.MethodName) prog_44_method_154_code (1 : Nat) (Option.some Jvm.ClassFile.FieldType.boolean)) ∈ lw_all := lw_g (lw_at lw_m6 27 rfl) rfl
theorem q1304 : (Jvm.Cond.methodLink "java/lang/String" (628 : Nat) ({ cls := "java/lang/StringLatin1", name := "hashCode", desc := "([B)I" } : Jvm.MethodName)) ∈ lw_all := lw_g (lw_at lw_m6 28 rfl) rfl
theorem q1353 : (Jvm.Cond.methodLink "java/lang/String" (632 : Nat) ({ cls := "java/lang/StringUTF16", name := "hashCode", desc := "([B)I" } : Jvm.MethodName)) ∈ lw_all := lw_g (lw_at lw_m6 77 rfl) rfl
theorem q1396 : (Jvm.Cond.selects "java/lang/String" ({ cls := "java/lang/Object", name := "equals", desc := "(Ljava/lang/Object;)Z" } : Jvm.MethodName) ({ cls := "java/lang/String", name := "equals", desc := "(Ljava/lang/Object;)Z" } : Jvm.MethodName)) ∈ lw_all := lw_g (lw_at lw_m6 120 rfl) rfl
theorem q1397 : (Jvm.Cond.instanceMethod ({ cls := "java/lang/String", name := "equals", desc := "(Ljava/lang/Object;)Z" } : Jvm.MethodName)) ∈ lw_all := lw_g (lw_at lw_m6 121 rfl) rfl
theorem q1398 : (Jvm.Cond.code ({ cls := "java/lang/String", name := "equals", desc := "(Ljava/lang/Object;)Z" } : Jvm.MethodName) prog_44_method_66_code (3 : Nat) (Option.some Jvm.ClassFile.FieldType.boolean)) ∈ lw_all := lw_g (lw_at lw_m6 122 rfl) rfl
theorem q1399 : (Jvm.Cond.classLink "java/lang/String" (10 : Nat) "java/lang/String") ∈ lw_all := lw_g (lw_at lw_m6 123 rfl) rfl
theorem q1400 : (Jvm.Cond.methodLink "java/lang/String" (541 : Nat) ({ cls := "java/lang/StringLatin1", name := "equals", desc := "([B[B)Z" } : Jvm.MethodName)) ∈ lw_all := lw_g (lw_at lw_m6 124 rfl) rfl
theorem q1448 : (Jvm.Cond.castable "java/lang/String" "java/lang/Comparable") ∈ lw_tbl := lw_at lw_m6 172 rfl
theorem q1449 : (Jvm.Cond.selects "java/lang/String" ({ cls := "java/lang/Comparable", name := "compareTo", desc := "(Ljava/lang/Object;)I" } : Jvm.MethodName) ({ cls := "java/lang/String", name := "compareTo", desc := "(Ljava/lang/Object;)I" } : Jvm.MethodName)) ∈ lw_all := lw_g (lw_at lw_m6 173 rfl) rfl
theorem q1450 : (Jvm.Cond.unhidden "java/lang/String" "compareTo" "(Ljava/lang/Object;)I") ∈ lw_tbl := lw_at lw_m6 174 rfl
theorem q1451 : (Jvm.Cond.instanceMethod ({ cls := "java/lang/String", name := "compareTo", desc := "(Ljava/lang/Object;)I" } : Jvm.MethodName)) ∈ lw_all := lw_g (lw_at lw_m6 175 rfl) rfl
theorem q1452 : (Jvm.Cond.publicMethod ({ cls := "java/lang/String", name := "compareTo", desc := "(Ljava/lang/Object;)I" } : Jvm.MethodName)) ∈ lw_tbl := lw_at lw_m6 176 rfl
theorem q1453 : (Jvm.Cond.code ({ cls := "java/lang/String", name := "compareTo", desc := "(Ljava/lang/Object;)I" } : Jvm.MethodName) prog_44_method_162_code (2 : Nat) (Option.some Jvm.ClassFile.FieldType.int)) ∈ lw_all := lw_g (lw_at lw_m6 177 rfl) rfl
theorem q1454 : (Jvm.Cond.methodLink "java/lang/String" (1084 : Nat) ({ cls := "java/lang/String", name := "compareTo", desc := "(Ljava/lang/String;)I" } : Jvm.MethodName)) ∈ lw_all := lw_g (lw_at lw_m6 178 rfl) rfl
theorem q1455 : (Jvm.Cond.instanceMethod ({ cls := "java/lang/String", name := "compareTo", desc := "(Ljava/lang/String;)I" } : Jvm.MethodName)) ∈ lw_all := lw_g (lw_at lw_m6 179 rfl) rfl
theorem q1456 : (Jvm.Cond.selects "java/lang/String" ({ cls := "java/lang/String", name := "compareTo", desc := "(Ljava/lang/String;)I" } : Jvm.MethodName) ({ cls := "java/lang/String", name := "compareTo", desc := "(Ljava/lang/String;)I" } : Jvm.MethodName)) ∈ lw_all := lw_g (lw_at lw_m6 180 rfl) rfl
theorem q1457 : (Jvm.Cond.code ({ cls := "java/lang/String", name := "compareTo", desc := "(Ljava/lang/String;)I" } : Jvm.MethodName) prog_44_method_71_code (5 : Nat) (Option.some Jvm.ClassFile.FieldType.int)) ∈ lw_all := lw_g (lw_at lw_m6 181 rfl) rfl
theorem q1458 : (Jvm.Cond.methodLink "java/lang/String" (586 : Nat) ({ cls := "java/lang/StringLatin1", name := "compareTo", desc := "([B[B)I" } : Jvm.MethodName)) ∈ lw_all := lw_g (lw_at lw_m6 182 rfl) rfl
theorem q1566 : (Jvm.Cond.methodLink "java/lang/String" (590 : Nat) ({ cls := "java/lang/StringUTF16", name := "compareTo", desc := "([B[B)I" } : Jvm.MethodName)) ∈ lw_all := lw_g (lw_at lw_m7 50 rfl) rfl
theorem q1573 : (Jvm.Cond.methodLink "java/lang/String" (591 : Nat) ({ cls := "java/lang/StringLatin1", name := "compareToUTF16", desc := "([B[B)I" } : Jvm.MethodName)) ∈ lw_all := lw_g (lw_at lw_m7 57 rfl) rfl
theorem q1584 : (Jvm.Cond.methodLink "java/lang/String" (594 : Nat) ({ cls := "java/lang/StringUTF16", name := "compareToLatin1", desc := "([B[B)I" } : Jvm.MethodName)) ∈ lw_all := lw_g (lw_at lw_m7 68 rfl) rfl
theorem q1610 : (Jvm.Cond.static ({ cls := "java/lang/String", name := "checkOffset", desc := "(II)V" } : Jvm.MethodName)) ∈ lw_all := lw_g (lw_at lw_m7 94 rfl) rfl
theorem q1611 : (Jvm.Cond.code ({ cls := "java/lang/String", name := "checkOffset", desc := "(II)V" } : Jvm.MethodName) prog_44_method_156_code (2 : Nat) (Option.none : Option Jvm.ClassFile.FieldType)) ∈ lw_all := lw_g (lw_at lw_m7 95 rfl) rfl
theorem q2921 : (Jvm.Cond.instanceMethod ({ cls := "java/lang/String", name := "indexOf", desc := "(I)I" } : Jvm.MethodName)) ∈ lw_all := lw_g (lw_at lw_m12 205 rfl) rfl
theorem q2922 : (Jvm.Cond.selects "java/lang/String" ({ cls := "java/lang/String", name := "indexOf", desc := "(I)I" } : Jvm.MethodName) ({ cls := "java/lang/String", name := "indexOf", desc := "(I)I" } : Jvm.MethodName)) ∈ lw_all := lw_g (lw_at lw_m12 206 rfl) rfl
theorem q2923 : (Jvm.Cond.code ({ cls := "java/lang/String", name := "indexOf", desc := "(I)I" } : Jvm.MethodName) prog_44_method_79_code (2 : Nat) (Option.some Jvm.ClassFile.FieldType.int)) ∈ lw_all := lw_g (lw_at lw_m12 207 rfl) rfl
theorem q2924 : (Jvm.Cond.methodLink "java/lang/String" (633 : Nat) ({ cls := "java/lang/String", name := "indexOf", desc := "(II)I" } : Jvm.MethodName)) ∈ lw_all := lw_g (lw_at lw_m12 208 rfl) rfl
theorem q2925 : (Jvm.Cond.instanceMethod ({ cls := "java/lang/String", name := "indexOf", desc := "(II)I" } : Jvm.MethodName)) ∈ lw_all := lw_g (lw_at lw_m12 209 rfl) rfl
theorem q2926 : (Jvm.Cond.selects "java/lang/String" ({ cls := "java/lang/String", name := "indexOf", desc := "(II)I" } : Jvm.MethodName) ({ cls := "java/lang/String", name := "indexOf", desc := "(II)I" } : Jvm.MethodName)) ∈ lw_all := lw_g (lw_at lw_m12 210 rfl) rfl
theorem q2927 : (Jvm.Cond.code ({ cls := "java/lang/String", name := "indexOf", desc := "(II)I" } : Jvm.MethodName) prog_44_method_80_code (3 : Nat) (Option.some Jvm.ClassFile.FieldType.int)) ∈ lw_all := lw_g (lw_at lw_m12 211 rfl) rfl
theorem q2928 : (Jvm.Cond.methodLink "java/lang/String" (505 : Nat) ({ cls := "java/lang/String", name := "length", desc := "()I" } : Jvm.MethodName)) ∈ lw_all := lw_g (lw_at lw_m12 212 rfl) rfl
theorem q2929 : (Jvm.Cond.methodLink "java/lang/String" (637 : Nat) ({ cls := "java/lang/StringLatin1", name := "indexOf", desc := "([BIII)I" } : Jvm.MethodName)) ∈ lw_all := lw_g (lw_at lw_m12 213 rfl) rfl
theorem q2939 : (Jvm.Cond.methodLink "java/lang/String" (640 : Nat) ({ cls := "java/lang/StringUTF16", name := "indexOf", desc := "([BIII)I" } : Jvm.MethodName)) ∈ lw_all := lw_g (lw_at lw_m12 223 rfl) rfl
theorem q3695 : (Jvm.Cond.castable "java/lang/String" "java/lang/Object") ∈ lw_tbl := lw_at lw_m16 19 rfl
theorem in_J16 : ∀ w ∈ wsJ160, w ∈ lw_all := lw_in wsJ160 [656, 658, 660, 662] (by decide +kernel) (by decide +kernel)
/-! java/util/Objects -/
def RJ17 : String := "java/util/Objects"
abbrev cJ17_checkIndex : ByteArray := prog_79_method_17_code
def yJ17_checkIndex : MethodName := ⟨RJ17, "checkIndex", "(II)I"⟩
def dkwJ17_checkIndex_0 : List UInt8 := [26, 27, 1, 184, 0, 105, 172]
abbrev dktJ17_checkIndex_0 : List UInt8 := dkwJ17_checkIndex_0 ++ []
theorem dksJ17_checkIndex_0 : cJ17_checkIndex.data.toList.drop 0 = dktJ17_checkIndex_0 := by decide +kernel
theorem dJ17_checkIndex_0 : decode cJ17_checkIndex 0 = .ok (.iload_n 0, 1) := dk_26 (dk_at dksJ17_checkIndex_0 0 rfl rfl)
theorem dJ17_checkIndex_1 : decode cJ17_checkIndex 1 = .ok (.iload_n 1, 1) := dk_27 (dk_at dksJ17_checkIndex_0 1 rfl rfl)
theorem dJ17_checkIndex_2 : decode cJ17_checkIndex 2 = .ok (.aconst_null, 1) := dk_1 (dk_at dksJ17_checkIndex_0 2 rfl rfl)
theorem dJ17_checkIndex_3 : decode cJ17_checkIndex 3 = .ok (.invokestatic 105, 3) := dk_184 0 105 (dk_at dksJ17_checkIndex_0 3 rfl rfl)
theorem dJ17_checkIndex_6 : decode cJ17_checkIndex 6 = .ok (.ireturn, 1) := dk_172 (dk_at dksJ17_checkIndex_0 6 rfl rfl)
abbrev cJ17_requireNonNull : ByteArray := prog_79_method_10_code
def yJ17_requireNonNull : MethodName := ⟨RJ17, "requireNonNull", "(Ljava/lang/Object;)Ljava/lang/Object;"⟩
def dkwJ17_requireNonNull_0 : List UInt8 := [42, 199, 0, 11, 187, 0, 84, 89, 183, 0, 86, 191, 42, 176]
abbrev dktJ17_requireNonNull_0 : List UInt8 := dkwJ17_requireNonNull_0 ++ []
theorem dksJ17_requireNonNull_0 : cJ17_requireNonNull.data.toList.drop 0 = dktJ17_requireNonNull_0 := by decide +kernel
theorem dJ17_requireNonNull_0 : decode cJ17_requireNonNull 0 = .ok (.aload_n 0, 1) := dk_42 (dk_at dksJ17_requireNonNull_0 0 rfl rfl)
theorem dJ17_requireNonNull_1 : decode cJ17_requireNonNull 1 = .ok (.ifnonnull 11, 3) := dk_199 0 11 (dk_at dksJ17_requireNonNull_0 1 rfl rfl)
theorem dJ17_requireNonNull_4 : decode cJ17_requireNonNull 4 = .ok (.new 84, 3) := dk_187 0 84 (dk_at dksJ17_requireNonNull_0 4 rfl rfl)
theorem dJ17_requireNonNull_7 : decode cJ17_requireNonNull 7 = .ok (.dup, 1) := dk_89 (dk_at dksJ17_requireNonNull_0 7 rfl rfl)
theorem dJ17_requireNonNull_8 : decode cJ17_requireNonNull 8 = .ok (.invokespecial 86, 3) := dk_183 0 86 (dk_at dksJ17_requireNonNull_0 8 rfl rfl)
theorem dJ17_requireNonNull_11 : decode cJ17_requireNonNull 11 = .ok (.athrow, 1) := dk_191 (dk_at dksJ17_requireNonNull_0 11 rfl rfl)
theorem dJ17_requireNonNull_12 : decode cJ17_requireNonNull 12 = .ok (.aload_n 0, 1) := dk_42 (dk_at dksJ17_requireNonNull_0 12 rfl rfl)
theorem dJ17_requireNonNull_13 : decode cJ17_requireNonNull 13 = .ok (.areturn, 1) := dk_176 (dk_at dksJ17_requireNonNull_0 13 rfl rfl)
abbrev cJ17_equals : ByteArray := prog_79_method_2_code
def yJ17_equals : MethodName := ⟨RJ17, "equals", "(Ljava/lang/Object;Ljava/lang/Object;)Z"⟩
def dkwJ17_equals_0 : List UInt8 := [42, 43, 165, 0, 15, 42, 198, 0, 15, 42, 43, 182, 0, 14, 153, 0, 7, 4, 167, 0, 4, 3, 172]
abbrev dktJ17_equals_0 : List UInt8 := dkwJ17_equals_0 ++ []
theorem dksJ17_equals_0 : cJ17_equals.data.toList.drop 0 = dktJ17_equals_0 := by decide +kernel
theorem dJ17_equals_0 : decode cJ17_equals 0 = .ok (.aload_n 0, 1) := dk_42 (dk_at dksJ17_equals_0 0 rfl rfl)
theorem dJ17_equals_1 : decode cJ17_equals 1 = .ok (.aload_n 1, 1) := dk_43 (dk_at dksJ17_equals_0 1 rfl rfl)
theorem dJ17_equals_2 : decode cJ17_equals 2 = .ok (.if_acmp .eq 15, 3) := dk_165 0 15 (dk_at dksJ17_equals_0 2 rfl rfl)
theorem dJ17_equals_5 : decode cJ17_equals 5 = .ok (.aload_n 0, 1) := dk_42 (dk_at dksJ17_equals_0 5 rfl rfl)
theorem dJ17_equals_6 : decode cJ17_equals 6 = .ok (.ifnull 15, 3) := dk_198 0 15 (dk_at dksJ17_equals_0 6 rfl rfl)
theorem dJ17_equals_9 : decode cJ17_equals 9 = .ok (.aload_n 0, 1) := dk_42 (dk_at dksJ17_equals_0 9 rfl rfl)
theorem dJ17_equals_10 : decode cJ17_equals 10 = .ok (.aload_n 1, 1) := dk_43 (dk_at dksJ17_equals_0 10 rfl rfl)
theorem dJ17_equals_11 : decode cJ17_equals 11 = .ok (.invokevirtual 14, 3) := dk_182 0 14 (dk_at dksJ17_equals_0 11 rfl rfl)
theorem dJ17_equals_14 : decode cJ17_equals 14 = .ok (.ifCond .eq 7, 3) := dk_153 0 7 (dk_at dksJ17_equals_0 14 rfl rfl)
theorem dJ17_equals_17 : decode cJ17_equals 17 = .ok (.iconst 1, 1) := dk_4 (dk_at dksJ17_equals_0 17 rfl rfl)
theorem dJ17_equals_18 : decode cJ17_equals 18 = .ok (.goto 4, 3) := dk_167 0 4 (dk_at dksJ17_equals_0 18 rfl rfl)
theorem dJ17_equals_21 : decode cJ17_equals 21 = .ok (.iconst 0, 1) := dk_3 (dk_at dksJ17_equals_0 21 rfl rfl)
theorem dJ17_equals_22 : decode cJ17_equals 22 = .ok (.ireturn, 1) := dk_172 (dk_at dksJ17_equals_0 22 rfl rfl)
theorem q100 : (Jvm.Cond.initialized "java/util/Objects") ∈ lw_all := lw_g (lw_at lw_m1 24 rfl) rfl
theorem q1099 : (Jvm.Cond.static ({ cls := "java/util/Objects", name := "checkIndex", desc := "(II)I" } : Jvm.MethodName)) ∈ lw_all := lw_g (lw_at lw_m5 63 rfl) rfl
theorem q1100 : (Jvm.Cond.code ({ cls := "java/util/Objects", name := "checkIndex", desc := "(II)I" } : Jvm.MethodName) prog_79_method_17_code (2 : Nat) (Option.some Jvm.ClassFile.FieldType.int)) ∈ lw_all := lw_g (lw_at lw_m5 64 rfl) rfl
theorem q1101 : (Jvm.Cond.methodLink "java/util/Objects" (105 : Nat) ({ cls := "jdk/internal/util/Preconditions", name := "checkIndex", desc := "(IILjava/util/function/BiFunction;)I" } : Jvm.MethodName)) ∈ lw_all := lw_g (lw_at lw_m5 65 rfl) rfl
theorem q1820 : (Jvm.Cond.static ({ cls := "java/util/Objects", name := "requireNonNull", desc := "(Ljava/lang/Object;)Ljava/lang/Object;" } : Jvm.MethodName)) ∈ lw_all := lw_g (lw_at lw_m8 64 rfl) rfl
theorem q1821 : (Jvm.Cond.code ({ cls := "java/util/Objects", name := "requireNonNull", desc := "(Ljava/lang/Object;)Ljava/lang/Object;" } : Jvm.MethodName) prog_79_method_10_code (1 : Nat) (Option.some (Jvm.ClassFile.FieldType.object "java/lang/Object"))) ∈ lw_all := lw_g (lw_at lw_m8 65 rfl) rfl
theorem q2623 : (Jvm.Cond.static ({ cls := "java/util/Objects", name := "equals", desc := "(Ljava/lang/Object;Ljava/lang/Object;)Z" } : Jvm.MethodName)) ∈ lw_all := lw_g (lw_at lw_m11 147 rfl) rfl
theorem q2624 : (Jvm.Cond.code ({ cls := "java/util/Objects", name := "equals", desc := "(Ljava/lang/Object;Ljava/lang/Object;)Z" } : Jvm.MethodName) prog_79_method_2_code (2 : Nat) (Option.some Jvm.ClassFile.FieldType.boolean)) ∈ lw_all := lw_g (lw_at lw_m11 148 rfl) rfl
theorem q2625 : (Jvm.Cond.methodLink "java/util/Objects" (14 : Nat) ({ cls := "java/lang/Object", name := "equals", desc := "(Ljava/lang/Object;)Z" } : Jvm.MethodName)) ∈ lw_all := lw_g (lw_at lw_m11 149 rfl) rfl
/-! jdk/internal/util/Preconditions -/
def RJ18 : String := "jdk/internal/util/Preconditions"
abbrev cJ18_checkFromToIndex : ByteArray := prog_101_method_12_code
def yJ18_checkFromToIndex : MethodName := ⟨RJ18, "checkFromToIndex", "(IIILjava/util/function/BiFunction;)I"⟩
def dkwJ18_checkFromToIndex_0 : List UInt8 := [26, 155, 0, 13, 26, 27, 163, 0, 8, 27, 28, 164, 0, 11, 45, 26, 27, 28, 184, 0, 99, 191, 26, 172]
abbrev dktJ18_checkFromToIndex_0 : List UInt8 := dkwJ18_checkFromToIndex_0 ++ []
theorem dksJ18_checkFromToIndex_0 : cJ18_checkFromToIndex.data.toList.drop 0 = dktJ18_checkFromToIndex_0 := by decide +kernel
theorem dJ18_checkFromToIndex_0 : decode cJ18_checkFromToIndex 0 = .ok (.iload_n 0, 1) := dk_26 (dk_at dksJ18_checkFromToIndex_0 0 rfl rfl)
theorem dJ18_checkFromToIndex_1 : decode cJ18_checkFromToIndex 1 = .ok (.ifCond .lt 13, 3) := dk_155 0 13 (dk_at dksJ18_checkFromToIndex_0 1 rfl rfl)
theorem dJ18_checkFromToIndex_4 : decode cJ18_checkFromToIndex 4 = .ok (.iload_n 0, 1) := dk_26 (dk_at dksJ18_checkFromToIndex_0 4 rfl rfl)
theorem dJ18_checkFromToIndex_5 : decode cJ18_checkFromToIndex 5 = .ok (.iload_n 1, 1) := dk_27 (dk_at dksJ18_checkFromToIndex_0 5 rfl rfl)
theorem dJ18_checkFromToIndex_6 : decode cJ18_checkFromToIndex 6 = .ok (.if_icmp .gt 8, 3) := dk_163 0 8 (dk_at dksJ18_checkFromToIndex_0 6 rfl rfl)
theorem dJ18_checkFromToIndex_9 : decode cJ18_checkFromToIndex 9 = .ok (.iload_n 1, 1) := dk_27 (dk_at dksJ18_checkFromToIndex_0 9 rfl rfl)
theorem dJ18_checkFromToIndex_10 : decode cJ18_checkFromToIndex 10 = .ok (.iload_n 2, 1) := dk_28 (dk_at dksJ18_checkFromToIndex_0 10 rfl rfl)
theorem dJ18_checkFromToIndex_11 : decode cJ18_checkFromToIndex 11 = .ok (.if_icmp .le 11, 3) := dk_164 0 11 (dk_at dksJ18_checkFromToIndex_0 11 rfl rfl)
theorem dJ18_checkFromToIndex_14 : decode cJ18_checkFromToIndex 14 = .ok (.aload_n 3, 1) := dk_45 (dk_at dksJ18_checkFromToIndex_0 14 rfl rfl)
theorem dJ18_checkFromToIndex_15 : decode cJ18_checkFromToIndex 15 = .ok (.iload_n 0, 1) := dk_26 (dk_at dksJ18_checkFromToIndex_0 15 rfl rfl)
theorem dJ18_checkFromToIndex_16 : decode cJ18_checkFromToIndex 16 = .ok (.iload_n 1, 1) := dk_27 (dk_at dksJ18_checkFromToIndex_0 16 rfl rfl)
theorem dJ18_checkFromToIndex_17 : decode cJ18_checkFromToIndex 17 = .ok (.iload_n 2, 1) := dk_28 (dk_at dksJ18_checkFromToIndex_0 17 rfl rfl)
theorem dJ18_checkFromToIndex_18 : decode cJ18_checkFromToIndex 18 = .ok (.invokestatic 99, 3) := dk_184 0 99 (dk_at dksJ18_checkFromToIndex_0 18 rfl rfl)
theorem dJ18_checkFromToIndex_21 : decode cJ18_checkFromToIndex 21 = .ok (.athrow, 1) := dk_191 (dk_at dksJ18_checkFromToIndex_0 21 rfl rfl)
theorem dJ18_checkFromToIndex_22 : decode cJ18_checkFromToIndex 22 = .ok (.iload_n 0, 1) := dk_26 (dk_at dksJ18_checkFromToIndex_0 22 rfl rfl)
theorem dJ18_checkFromToIndex_23 : decode cJ18_checkFromToIndex 23 = .ok (.ireturn, 1) := dk_172 (dk_at dksJ18_checkFromToIndex_0 23 rfl rfl)
abbrev cJ18_checkFromIndexSize : ByteArray := prog_101_method_13_code
def yJ18_checkFromIndexSize : MethodName := ⟨RJ18, "checkFromIndexSize", "(IIILjava/util/function/BiFunction;)I"⟩
def dkwJ18_checkFromIndexSize_1 : List UInt8 := [172]
abbrev dktJ18_checkFromIndexSize_1 : List UInt8 := dkwJ18_checkFromIndexSize_1 ++ []
def dkwJ18_checkFromIndexSize_0 : List UInt8 := [28, 26, 128, 27, 128, 155, 0, 10, 27, 28, 26, 100, 164, 0, 11, 45, 26, 27, 28, 184, 0, 103, 191, 26]
abbrev dktJ18_checkFromIndexSize_0 : List UInt8 := dkwJ18_checkFromIndexSize_0 ++ dktJ18_checkFromIndexSize_1
theorem dksJ18_checkFromIndexSize_0 : cJ18_checkFromIndexSize.data.toList.drop 0 = dktJ18_checkFromIndexSize_0 := by decide +kernel
theorem dksJ18_checkFromIndexSize_1 : cJ18_checkFromIndexSize.data.toList.drop 24 = dktJ18_checkFromIndexSize_1 := dk_seg dksJ18_checkFromIndexSize_0 24 rfl rfl
theorem dJ18_checkFromIndexSize_0 : decode cJ18_checkFromIndexSize 0 = .ok (.iload_n 2, 1) := dk_28 (dk_at dksJ18_checkFromIndexSize_0 0 rfl rfl)
theorem dJ18_checkFromIndexSize_1 : decode cJ18_checkFromIndexSize 1 = .ok (.iload_n 0, 1) := dk_26 (dk_at dksJ18_checkFromIndexSize_0 1 rfl rfl)
theorem dJ18_checkFromIndexSize_2 : decode cJ18_checkFromIndexSize 2 = .ok (.ior, 1) := dk_128 (dk_at dksJ18_checkFromIndexSize_0 2 rfl rfl)
theorem dJ18_checkFromIndexSize_3 : decode cJ18_checkFromIndexSize 3 = .ok (.iload_n 1, 1) := dk_27 (dk_at dksJ18_checkFromIndexSize_0 3 rfl rfl)
theorem dJ18_checkFromIndexSize_4 : decode cJ18_checkFromIndexSize 4 = .ok (.ior, 1) := dk_128 (dk_at dksJ18_checkFromIndexSize_0 4 rfl rfl)
theorem dJ18_checkFromIndexSize_5 : decode cJ18_checkFromIndexSize 5 = .ok (.ifCond .lt 10, 3) := dk_155 0 10 (dk_at dksJ18_checkFromIndexSize_0 5 rfl rfl)
theorem dJ18_checkFromIndexSize_8 : decode cJ18_checkFromIndexSize 8 = .ok (.iload_n 1, 1) := dk_27 (dk_at dksJ18_checkFromIndexSize_0 8 rfl rfl)
theorem dJ18_checkFromIndexSize_9 : decode cJ18_checkFromIndexSize 9 = .ok (.iload_n 2, 1) := dk_28 (dk_at dksJ18_checkFromIndexSize_0 9 rfl rfl)
theorem dJ18_checkFromIndexSize_10 : decode cJ18_checkFromIndexSize 10 = .ok (.iload_n 0, 1) := dk_26 (dk_at dksJ18_checkFromIndexSize_0 10 rfl rfl)
theorem dJ18_checkFromIndexSize_11 : decode cJ18_checkFromIndexSize 11 = .ok (.isub, 1) := dk_100 (dk_at dksJ18_checkFromIndexSize_0 11 rfl rfl)
theorem dJ18_checkFromIndexSize_12 : decode cJ18_checkFromIndexSize 12 = .ok (.if_icmp .le 11, 3) := dk_164 0 11 (dk_at dksJ18_checkFromIndexSize_0 12 rfl rfl)
theorem dJ18_checkFromIndexSize_15 : decode cJ18_checkFromIndexSize 15 = .ok (.aload_n 3, 1) := dk_45 (dk_at dksJ18_checkFromIndexSize_0 15 rfl rfl)
theorem dJ18_checkFromIndexSize_16 : decode cJ18_checkFromIndexSize 16 = .ok (.iload_n 0, 1) := dk_26 (dk_at dksJ18_checkFromIndexSize_0 16 rfl rfl)
theorem dJ18_checkFromIndexSize_17 : decode cJ18_checkFromIndexSize 17 = .ok (.iload_n 1, 1) := dk_27 (dk_at dksJ18_checkFromIndexSize_0 17 rfl rfl)
theorem dJ18_checkFromIndexSize_18 : decode cJ18_checkFromIndexSize 18 = .ok (.iload_n 2, 1) := dk_28 (dk_at dksJ18_checkFromIndexSize_0 18 rfl rfl)
theorem dJ18_checkFromIndexSize_19 : decode cJ18_checkFromIndexSize 19 = .ok (.invokestatic 103, 3) := dk_184 0 103 (dk_at dksJ18_checkFromIndexSize_0 19 rfl rfl)
theorem dJ18_checkFromIndexSize_22 : decode cJ18_checkFromIndexSize 22 = .ok (.athrow, 1) := dk_191 (dk_at dksJ18_checkFromIndexSize_0 22 rfl rfl)
theorem dJ18_checkFromIndexSize_23 : decode cJ18_checkFromIndexSize 23 = .ok (.iload_n 0, 1) := dk_26 (dk_at dksJ18_checkFromIndexSize_0 23 rfl rfl)
theorem dJ18_checkFromIndexSize_24 : decode cJ18_checkFromIndexSize 24 = .ok (.ireturn, 1) := dk_172 (dk_at dksJ18_checkFromIndexSize_1 0 rfl rfl)
abbrev cJ18_checkIndex : ByteArray := prog_101_method_11_code
def yJ18_checkIndex : MethodName := ⟨RJ18, "checkIndex", "(IILjava/util/function/BiFunction;)I"⟩
def dkwJ18_checkIndex_0 : List UInt8 := [26, 155, 0, 8, 26, 27, 161, 0, 10, 44, 26, 27, 184, 0, 95, 191, 26, 172]
abbrev dktJ18_checkIndex_0 : List UInt8 := dkwJ18_checkIndex_0 ++ []
theorem dksJ18_checkIndex_0 : cJ18_checkIndex.data.toList.drop 0 = dktJ18_checkIndex_0 := by decide +kernel
theorem dJ18_checkIndex_0 : decode cJ18_checkIndex 0 = .ok (.iload_n 0, 1) := dk_26 (dk_at dksJ18_checkIndex_0 0 rfl rfl)
theorem dJ18_checkIndex_1 : decode cJ18_checkIndex 1 = .ok (.ifCond .lt 8, 3) := dk_155 0 8 (dk_at dksJ18_checkIndex_0 1 rfl rfl)
theorem dJ18_checkIndex_4 : decode cJ18_checkIndex 4 = .ok (.iload_n 0, 1) := dk_26 (dk_at dksJ18_checkIndex_0 4 rfl rfl)
theorem dJ18_checkIndex_5 : decode cJ18_checkIndex 5 = .ok (.iload_n 1, 1) := dk_27 (dk_at dksJ18_checkIndex_0 5 rfl rfl)
theorem dJ18_checkIndex_6 : decode cJ18_checkIndex 6 = .ok (.if_icmp .lt 10, 3) := dk_161 0 10 (dk_at dksJ18_checkIndex_0 6 rfl rfl)
theorem dJ18_checkIndex_9 : decode cJ18_checkIndex 9 = .ok (.aload_n 2, 1) := dk_44 (dk_at dksJ18_checkIndex_0 9 rfl rfl)
theorem dJ18_checkIndex_10 : decode cJ18_checkIndex 10 = .ok (.iload_n 0, 1) := dk_26 (dk_at dksJ18_checkIndex_0 10 rfl rfl)
theorem dJ18_checkIndex_11 : decode cJ18_checkIndex 11 = .ok (.iload_n 1, 1) := dk_27 (dk_at dksJ18_checkIndex_0 11 rfl rfl)
theorem dJ18_checkIndex_12 : decode cJ18_checkIndex 12 = .ok (.invokestatic 95, 3) := dk_184 0 95 (dk_at dksJ18_checkIndex_0 12 rfl rfl)
theorem dJ18_checkIndex_15 : decode cJ18_checkIndex 15 = .ok (.athrow, 1) := dk_191 (dk_at dksJ18_checkIndex_0 15 rfl rfl)
theorem dJ18_checkIndex_16 : decode cJ18_checkIndex 16 = .ok (.iload_n 0, 1) := dk_26 (dk_at dksJ18_checkIndex_0 16 rfl rfl)
theorem dJ18_checkIndex_17 : decode cJ18_checkIndex 17 = .ok (.ireturn, 1) := dk_172 (dk_at dksJ18_checkIndex_0 17 rfl rfl)
theorem q101 : (Jvm.Cond.initialized "jdk/internal/util/Preconditions") ∈ lw_all := lw_g (lw_at lw_m1 25 rfl) rfl
theorem q482 : (Jvm.Cond.laysStatic "jdk/internal/util/Preconditions" "SIOOBE_FORMATTER" "Ljava/util/function/BiFunction;") ∈ lw_tbl := lw_at lw_m2 166 rfl
theorem q484 : (Jvm.Cond.static ({ cls := "jdk/internal/util/Preconditions", name := "checkFromToIndex", desc := "(IIILjava/util/function/BiFunction;)I" } : Jvm.MethodName)) ∈ lw_all := lw_g (lw_at lw_m2 168 rfl) rfl
theorem q485 : (Jvm.Cond.code ({ cls := "jdk/internal/util/Preconditions", name := "checkFromToIndex", desc := "(IIILjava/util/function/BiFunction;)I" } : Jvm.MethodName) prog_101_method_12_code (4 : Nat) (Option.some Jvm.ClassFile.FieldType.int)) ∈ lw_all := lw_g (lw_at lw_m2 169 rfl) rfl
theorem q530 : (Jvm.Cond.static ({ cls := "jdk/internal/util/Preconditions", name := "checkFromIndexSize", desc := "(IIILjava/util/function/BiFunction;)I" } : Jvm.MethodName)) ∈ lw_all := lw_g (lw_at lw_m2 214 rfl) rfl
theorem q531 : (Jvm.Cond.code ({ cls := "jdk/internal/util/Preconditions", name := "checkFromIndexSize", desc := "(IIILjava/util/function/BiFunction;)I" } : Jvm.MethodName) prog_101_method_13_code (4 : Nat) (Option.some Jvm.ClassFile.FieldType.int)) ∈ lw_all := lw_g (lw_at lw_m2 215 rfl) rfl
theorem q1102 : (Jvm.Cond.static ({ cls := "jdk/internal/util/Preconditions", name := "checkIndex", desc := "(IILjava/util/function/BiFunction;)I" } : Jvm.MethodName)) ∈ lw_all := lw_g (lw_at lw_m5 66 rfl) rfl
theorem q1103 : (Jvm.Cond.code ({ cls := "jdk/internal/util/Preconditions", name := "checkIndex", desc := "(IILjava/util/function/BiFunction;)I" } : Jvm.MethodName) prog_101_method_11_code (3 : Nat) (Option.some Jvm.ClassFile.FieldType.int)) ∈ lw_all := lw_g (lw_at lw_m5 67 rfl) rfl
/-! java/util/ArrayList$Itr -/
def RJ19 : String := "java/util/ArrayList$Itr"
def TJ19 : u_T := fun k => match k with
  | 0 => ("java/util/ArrayList$Itr", "cursor", "I", false)
  | 1 => ("java/util/ArrayList$Itr", "lastRet", "I", false)
  | 2 => ("java/util/ArrayList$Itr", "expectedModCount", "I", false)
  | _ => ("java/util/ArrayList$Itr", "this$0", "Ljava/util/ArrayList;", true)
def tyJ19 : Nat → FieldType := fun k => match k with
  | 0 => .int
  | 1 => .int
  | 2 => .int
  | _ => .object "java/util/ArrayList"
abbrev wsJ190 : List Cond := u_ws RJ19 TJ19 4
theorem nmJ19 : ∀ a, a < 4 → ∀ b, b < 4 → a ≠ b → (TJ19 a).2.1 ≠ (TJ19 b).2.1 := by decide +kernel
theorem tyJ19_ok : ∀ k, k < 4 → parseFieldDescriptor (TJ19 k).2.2.1 = some (tyJ19 k) := by decide +kernel
abbrev cJ19_init : ByteArray := prog_59_method_1_code
def yJ19_init : MethodName := ⟨RJ19, "<init>", "(Ljava/util/ArrayList;)V"⟩
def dkwJ19_init_1 : List UInt8 := [181, 0, 22, 177]
abbrev dktJ19_init_1 : List UInt8 := dkwJ19_init_1 ++ []
def dkwJ19_init_0 : List UInt8 := [42, 43, 181, 0, 1, 42, 183, 0, 7, 42, 2, 181, 0, 13, 42, 42, 180, 0, 1, 180, 0, 17]
abbrev dktJ19_init_0 : List UInt8 := dkwJ19_init_0 ++ dktJ19_init_1
theorem dksJ19_init_0 : cJ19_init.data.toList.drop 0 = dktJ19_init_0 := by decide +kernel
theorem dksJ19_init_1 : cJ19_init.data.toList.drop 22 = dktJ19_init_1 := dk_seg dksJ19_init_0 22 rfl rfl
theorem dJ19_init_0 : decode cJ19_init 0 = .ok (.aload_n 0, 1) := dk_42 (dk_at dksJ19_init_0 0 rfl rfl)
theorem dJ19_init_1 : decode cJ19_init 1 = .ok (.aload_n 1, 1) := dk_43 (dk_at dksJ19_init_0 1 rfl rfl)
theorem dJ19_init_2 : decode cJ19_init 2 = .ok (.putfield 1, 3) := dk_181 0 1 (dk_at dksJ19_init_0 2 rfl rfl)
theorem dJ19_init_5 : decode cJ19_init 5 = .ok (.aload_n 0, 1) := dk_42 (dk_at dksJ19_init_0 5 rfl rfl)
theorem dJ19_init_6 : decode cJ19_init 6 = .ok (.invokespecial 7, 3) := dk_183 0 7 (dk_at dksJ19_init_0 6 rfl rfl)
theorem dJ19_init_9 : decode cJ19_init 9 = .ok (.aload_n 0, 1) := dk_42 (dk_at dksJ19_init_0 9 rfl rfl)
theorem dJ19_init_10 : decode cJ19_init 10 = .ok (.iconst (-1), 1) := dk_2 (dk_at dksJ19_init_0 10 rfl rfl)
theorem dJ19_init_11 : decode cJ19_init 11 = .ok (.putfield 13, 3) := dk_181 0 13 (dk_at dksJ19_init_0 11 rfl rfl)
theorem dJ19_init_14 : decode cJ19_init 14 = .ok (.aload_n 0, 1) := dk_42 (dk_at dksJ19_init_0 14 rfl rfl)
theorem dJ19_init_15 : decode cJ19_init 15 = .ok (.aload_n 0, 1) := dk_42 (dk_at dksJ19_init_0 15 rfl rfl)
theorem dJ19_init_16 : decode cJ19_init 16 = .ok (.getfield 1, 3) := dk_180 0 1 (dk_at dksJ19_init_0 16 rfl rfl)
theorem dJ19_init_19 : decode cJ19_init 19 = .ok (.getfield 17, 3) := dk_180 0 17 (dk_at dksJ19_init_0 19 rfl rfl)
theorem dJ19_init_22 : decode cJ19_init 22 = .ok (.putfield 22, 3) := dk_181 0 22 (dk_at dksJ19_init_1 0 rfl rfl)
theorem dJ19_init_25 : decode cJ19_init 25 = .ok (.return_, 1) := dk_177 (dk_at dksJ19_init_1 3 rfl rfl)
abbrev cJ19_hasNext : ByteArray := prog_59_method_2_code
def yJ19_hasNext : MethodName := ⟨RJ19, "hasNext", "()Z"⟩
def dkwJ19_hasNext_0 : List UInt8 := [42, 180, 0, 25, 42, 180, 0, 1, 180, 0, 28, 159, 0, 7, 4, 167, 0, 4, 3, 172]
abbrev dktJ19_hasNext_0 : List UInt8 := dkwJ19_hasNext_0 ++ []
theorem dksJ19_hasNext_0 : cJ19_hasNext.data.toList.drop 0 = dktJ19_hasNext_0 := by decide +kernel
theorem dJ19_hasNext_0 : decode cJ19_hasNext 0 = .ok (.aload_n 0, 1) := dk_42 (dk_at dksJ19_hasNext_0 0 rfl rfl)
theorem dJ19_hasNext_1 : decode cJ19_hasNext 1 = .ok (.getfield 25, 3) := dk_180 0 25 (dk_at dksJ19_hasNext_0 1 rfl rfl)
theorem dJ19_hasNext_4 : decode cJ19_hasNext 4 = .ok (.aload_n 0, 1) := dk_42 (dk_at dksJ19_hasNext_0 4 rfl rfl)
theorem dJ19_hasNext_5 : decode cJ19_hasNext 5 = .ok (.getfield 1, 3) := dk_180 0 1 (dk_at dksJ19_hasNext_0 5 rfl rfl)
theorem dJ19_hasNext_8 : decode cJ19_hasNext 8 = .ok (.getfield 28, 3) := dk_180 0 28 (dk_at dksJ19_hasNext_0 8 rfl rfl)
theorem dJ19_hasNext_11 : decode cJ19_hasNext 11 = .ok (.if_icmp .eq 7, 3) := dk_159 0 7 (dk_at dksJ19_hasNext_0 11 rfl rfl)
theorem dJ19_hasNext_14 : decode cJ19_hasNext 14 = .ok (.iconst 1, 1) := dk_4 (dk_at dksJ19_hasNext_0 14 rfl rfl)
theorem dJ19_hasNext_15 : decode cJ19_hasNext 15 = .ok (.goto 4, 3) := dk_167 0 4 (dk_at dksJ19_hasNext_0 15 rfl rfl)
theorem dJ19_hasNext_18 : decode cJ19_hasNext 18 = .ok (.iconst 0, 1) := dk_3 (dk_at dksJ19_hasNext_0 18 rfl rfl)
theorem dJ19_hasNext_19 : decode cJ19_hasNext 19 = .ok (.ireturn, 1) := dk_172 (dk_at dksJ19_hasNext_0 19 rfl rfl)
abbrev cJ19_next : ByteArray := prog_59_method_3_code
def yJ19_next : MethodName := ⟨RJ19, "next", "()Ljava/lang/Object;"⟩
def dkwJ19_next_2 : List UInt8 := [183, 0, 43, 191, 42, 27, 4, 96, 181, 0, 25, 44, 42, 27, 90, 181, 0, 13, 50, 176]
abbrev dktJ19_next_2 : List UInt8 := dkwJ19_next_2 ++ []
def dkwJ19_next_1 : List UInt8 := [183, 0, 36, 191, 42, 180, 0, 1, 180, 0, 37, 77, 27, 44, 190, 161, 0, 11, 187, 0, 41, 89]
abbrev dktJ19_next_1 : List UInt8 := dkwJ19_next_1 ++ dktJ19_next_2
def dkwJ19_next_0 : List UInt8 := [42, 182, 0, 31, 42, 180, 0, 25, 60, 27, 42, 180, 0, 1, 180, 0, 28, 161, 0, 11, 187, 0, 34, 89]
abbrev dktJ19_next_0 : List UInt8 := dkwJ19_next_0 ++ dktJ19_next_1
theorem dksJ19_next_0 : cJ19_next.data.toList.drop 0 = dktJ19_next_0 := by decide +kernel
theorem dksJ19_next_1 : cJ19_next.data.toList.drop 24 = dktJ19_next_1 := dk_seg dksJ19_next_0 24 rfl rfl
theorem dksJ19_next_2 : cJ19_next.data.toList.drop 46 = dktJ19_next_2 := dk_seg dksJ19_next_1 22 rfl rfl
theorem dJ19_next_0 : decode cJ19_next 0 = .ok (.aload_n 0, 1) := dk_42 (dk_at dksJ19_next_0 0 rfl rfl)
theorem dJ19_next_1 : decode cJ19_next 1 = .ok (.invokevirtual 31, 3) := dk_182 0 31 (dk_at dksJ19_next_0 1 rfl rfl)
theorem dJ19_next_4 : decode cJ19_next 4 = .ok (.aload_n 0, 1) := dk_42 (dk_at dksJ19_next_0 4 rfl rfl)
theorem dJ19_next_5 : decode cJ19_next 5 = .ok (.getfield 25, 3) := dk_180 0 25 (dk_at dksJ19_next_0 5 rfl rfl)
theorem dJ19_next_8 : decode cJ19_next 8 = .ok (.istore_n 1, 1) := dk_60 (dk_at dksJ19_next_0 8 rfl rfl)
theorem dJ19_next_9 : decode cJ19_next 9 = .ok (.iload_n 1, 1) := dk_27 (dk_at dksJ19_next_0 9 rfl rfl)
theorem dJ19_next_10 : decode cJ19_next 10 = .ok (.aload_n 0, 1) := dk_42 (dk_at dksJ19_next_0 10 rfl rfl)
theorem dJ19_next_11 : decode cJ19_next 11 = .ok (.getfield 1, 3) := dk_180 0 1 (dk_at dksJ19_next_0 11 rfl rfl)
theorem dJ19_next_14 : decode cJ19_next 14 = .ok (.getfield 28, 3) := dk_180 0 28 (dk_at dksJ19_next_0 14 rfl rfl)
theorem dJ19_next_17 : decode cJ19_next 17 = .ok (.if_icmp .lt 11, 3) := dk_161 0 11 (dk_at dksJ19_next_0 17 rfl rfl)
theorem dJ19_next_20 : decode cJ19_next 20 = .ok (.new 34, 3) := dk_187 0 34 (dk_at dksJ19_next_0 20 rfl rfl)
theorem dJ19_next_23 : decode cJ19_next 23 = .ok (.dup, 1) := dk_89 (dk_at dksJ19_next_0 23 rfl rfl)
theorem dJ19_next_24 : decode cJ19_next 24 = .ok (.invokespecial 36, 3) := dk_183 0 36 (dk_at dksJ19_next_1 0 rfl rfl)
theorem dJ19_next_27 : decode cJ19_next 27 = .ok (.athrow, 1) := dk_191 (dk_at dksJ19_next_1 3 rfl rfl)
theorem dJ19_next_28 : decode cJ19_next 28 = .ok (.aload_n 0, 1) := dk_42 (dk_at dksJ19_next_1 4 rfl rfl)
theorem dJ19_next_29 : decode cJ19_next 29 = .ok (.getfield 1, 3) := dk_180 0 1 (dk_at dksJ19_next_1 5 rfl rfl)
theorem dJ19_next_32 : decode cJ19_next 32 = .ok (.getfield 37, 3) := dk_180 0 37 (dk_at dksJ19_next_1 8 rfl rfl)
theorem dJ19_next_35 : decode cJ19_next 35 = .ok (.astore_n 2, 1) := dk_77 (dk_at dksJ19_next_1 11 rfl rfl)
theorem dJ19_next_36 : decode cJ19_next 36 = .ok (.iload_n 1, 1) := dk_27 (dk_at dksJ19_next_1 12 rfl rfl)
theorem dJ19_next_37 : decode cJ19_next 37 = .ok (.aload_n 2, 1) := dk_44 (dk_at dksJ19_next_1 13 rfl rfl)
theorem dJ19_next_38 : decode cJ19_next 38 = .ok (.arraylength, 1) := dk_190 (dk_at dksJ19_next_1 14 rfl rfl)
theorem dJ19_next_39 : decode cJ19_next 39 = .ok (.if_icmp .lt 11, 3) := dk_161 0 11 (dk_at dksJ19_next_1 15 rfl rfl)
theorem dJ19_next_42 : decode cJ19_next 42 = .ok (.new 41, 3) := dk_187 0 41 (dk_at dksJ19_next_1 18 rfl rfl)
theorem dJ19_next_45 : decode cJ19_next 45 = .ok (.dup, 1) := dk_89 (dk_at dksJ19_next_1 21 rfl rfl)
theorem dJ19_next_46 : decode cJ19_next 46 = .ok (.invokespecial 43, 3) := dk_183 0 43 (dk_at dksJ19_next_2 0 rfl rfl)
theorem dJ19_next_49 : decode cJ19_next 49 = .ok (.athrow, 1) := dk_191 (dk_at dksJ19_next_2 3 rfl rfl)
theorem dJ19_next_50 : decode cJ19_next 50 = .ok (.aload_n 0, 1) := dk_42 (dk_at dksJ19_next_2 4 rfl rfl)
theorem dJ19_next_51 : decode cJ19_next 51 = .ok (.iload_n 1, 1) := dk_27 (dk_at dksJ19_next_2 5 rfl rfl)
theorem dJ19_next_52 : decode cJ19_next 52 = .ok (.iconst 1, 1) := dk_4 (dk_at dksJ19_next_2 6 rfl rfl)
theorem dJ19_next_53 : decode cJ19_next 53 = .ok (.iadd, 1) := dk_96 (dk_at dksJ19_next_2 7 rfl rfl)
theorem dJ19_next_54 : decode cJ19_next 54 = .ok (.putfield 25, 3) := dk_181 0 25 (dk_at dksJ19_next_2 8 rfl rfl)
theorem dJ19_next_57 : decode cJ19_next 57 = .ok (.aload_n 2, 1) := dk_44 (dk_at dksJ19_next_2 11 rfl rfl)
theorem dJ19_next_58 : decode cJ19_next 58 = .ok (.aload_n 0, 1) := dk_42 (dk_at dksJ19_next_2 12 rfl rfl)
theorem dJ19_next_59 : decode cJ19_next 59 = .ok (.iload_n 1, 1) := dk_27 (dk_at dksJ19_next_2 13 rfl rfl)
theorem dJ19_next_60 : decode cJ19_next 60 = .ok (.dup_x1, 1) := dk_90 (dk_at dksJ19_next_2 14 rfl rfl)
theorem dJ19_next_61 : decode cJ19_next 61 = .ok (.putfield 13, 3) := dk_181 0 13 (dk_at dksJ19_next_2 15 rfl rfl)
theorem dJ19_next_64 : decode cJ19_next 64 = .ok (.aaload, 1) := dk_50 (dk_at dksJ19_next_2 18 rfl rfl)
theorem dJ19_next_65 : decode cJ19_next 65 = .ok (.areturn, 1) := dk_176 (dk_at dksJ19_next_2 19 rfl rfl)
abbrev cJ19_checkForComodification : ByteArray := prog_59_method_6_code
def yJ19_checkForComodification : MethodName := ⟨RJ19, "checkForComodification", "()V"⟩
def dkwJ19_checkForComodification_0 : List UInt8 := [42, 180, 0, 1, 180, 0, 17, 42, 180, 0, 22, 159, 0, 11, 187, 0, 41, 89, 183, 0, 43, 191, 177]
abbrev dktJ19_checkForComodification_0 : List UInt8 := dkwJ19_checkForComodification_0 ++ []
theorem dksJ19_checkForComodification_0 : cJ19_checkForComodification.data.toList.drop 0 = dktJ19_checkForComodification_0 := by decide +kernel
theorem dJ19_checkForComodification_0 : decode cJ19_checkForComodification 0 = .ok (.aload_n 0, 1) := dk_42 (dk_at dksJ19_checkForComodification_0 0 rfl rfl)
theorem dJ19_checkForComodification_1 : decode cJ19_checkForComodification 1 = .ok (.getfield 1, 3) := dk_180 0 1 (dk_at dksJ19_checkForComodification_0 1 rfl rfl)
theorem dJ19_checkForComodification_4 : decode cJ19_checkForComodification 4 = .ok (.getfield 17, 3) := dk_180 0 17 (dk_at dksJ19_checkForComodification_0 4 rfl rfl)
theorem dJ19_checkForComodification_7 : decode cJ19_checkForComodification 7 = .ok (.aload_n 0, 1) := dk_42 (dk_at dksJ19_checkForComodification_0 7 rfl rfl)
theorem dJ19_checkForComodification_8 : decode cJ19_checkForComodification 8 = .ok (.getfield 22, 3) := dk_180 0 22 (dk_at dksJ19_checkForComodification_0 8 rfl rfl)
theorem dJ19_checkForComodification_11 : decode cJ19_checkForComodification 11 = .ok (.if_icmp .eq 11, 3) := dk_159 0 11 (dk_at dksJ19_checkForComodification_0 11 rfl rfl)
theorem dJ19_checkForComodification_14 : decode cJ19_checkForComodification 14 = .ok (.new 41, 3) := dk_187 0 41 (dk_at dksJ19_checkForComodification_0 14 rfl rfl)
theorem dJ19_checkForComodification_17 : decode cJ19_checkForComodification 17 = .ok (.dup, 1) := dk_89 (dk_at dksJ19_checkForComodification_0 17 rfl rfl)
theorem dJ19_checkForComodification_18 : decode cJ19_checkForComodification 18 = .ok (.invokespecial 43, 3) := dk_183 0 43 (dk_at dksJ19_checkForComodification_0 18 rfl rfl)
theorem dJ19_checkForComodification_21 : decode cJ19_checkForComodification 21 = .ok (.athrow, 1) := dk_191 (dk_at dksJ19_checkForComodification_0 21 rfl rfl)
theorem dJ19_checkForComodification_22 : decode cJ19_checkForComodification 22 = .ok (.return_, 1) := dk_177 (dk_at dksJ19_checkForComodification_0 22 rfl rfl)
abbrev cJ19_remove : ByteArray := prog_59_method_4_code
def yJ19_remove : MethodName := ⟨RJ19, "remove", "()V"⟩
def dkwJ19_remove_2 : List UInt8 := [180, 0, 1, 180, 0, 17, 181, 0, 22, 167, 0, 12, 76, 187, 0, 41, 89, 183, 0, 43, 191, 177]
abbrev dktJ19_remove_2 : List UInt8 := dkwJ19_remove_2 ++ []
def dkwJ19_remove_1 : List UInt8 := [180, 0, 13, 182, 0, 47, 87, 42, 42, 180, 0, 13, 181, 0, 25, 42, 2, 181, 0, 13, 42, 42]
abbrev dktJ19_remove_1 : List UInt8 := dkwJ19_remove_1 ++ dktJ19_remove_2
def dkwJ19_remove_0 : List UInt8 := [42, 180, 0, 13, 156, 0, 11, 187, 0, 44, 89, 183, 0, 46, 191, 42, 182, 0, 31, 42, 180, 0, 1, 42]
abbrev dktJ19_remove_0 : List UInt8 := dkwJ19_remove_0 ++ dktJ19_remove_1
theorem dksJ19_remove_0 : cJ19_remove.data.toList.drop 0 = dktJ19_remove_0 := by decide +kernel
theorem dksJ19_remove_1 : cJ19_remove.data.toList.drop 24 = dktJ19_remove_1 := dk_seg dksJ19_remove_0 24 rfl rfl
theorem dksJ19_remove_2 : cJ19_remove.data.toList.drop 46 = dktJ19_remove_2 := dk_seg dksJ19_remove_1 22 rfl rfl
theorem dJ19_remove_0 : decode cJ19_remove 0 = .ok (.aload_n 0, 1) := dk_42 (dk_at dksJ19_remove_0 0 rfl rfl)
theorem dJ19_remove_1 : decode cJ19_remove 1 = .ok (.getfield 13, 3) := dk_180 0 13 (dk_at dksJ19_remove_0 1 rfl rfl)
theorem dJ19_remove_4 : decode cJ19_remove 4 = .ok (.ifCond .ge 11, 3) := dk_156 0 11 (dk_at dksJ19_remove_0 4 rfl rfl)
theorem dJ19_remove_7 : decode cJ19_remove 7 = .ok (.new 44, 3) := dk_187 0 44 (dk_at dksJ19_remove_0 7 rfl rfl)
theorem dJ19_remove_10 : decode cJ19_remove 10 = .ok (.dup, 1) := dk_89 (dk_at dksJ19_remove_0 10 rfl rfl)
theorem dJ19_remove_11 : decode cJ19_remove 11 = .ok (.invokespecial 46, 3) := dk_183 0 46 (dk_at dksJ19_remove_0 11 rfl rfl)
theorem dJ19_remove_14 : decode cJ19_remove 14 = .ok (.athrow, 1) := dk_191 (dk_at dksJ19_remove_0 14 rfl rfl)
theorem dJ19_remove_15 : decode cJ19_remove 15 = .ok (.aload_n 0, 1) := dk_42 (dk_at dksJ19_remove_0 15 rfl rfl)
theorem dJ19_remove_16 : decode cJ19_remove 16 = .ok (.invokevirtual 31, 3) := dk_182 0 31 (dk_at dksJ19_remove_0 16 rfl rfl)
theorem dJ19_remove_19 : decode cJ19_remove 19 = .ok (.aload_n 0, 1) := dk_42 (dk_at dksJ19_remove_0 19 rfl rfl)
theorem dJ19_remove_20 : decode cJ19_remove 20 = .ok (.getfield 1, 3) := dk_180 0 1 (dk_at dksJ19_remove_0 20 rfl rfl)
theorem dJ19_remove_23 : decode cJ19_remove 23 = .ok (.aload_n 0, 1) := dk_42 (dk_at dksJ19_remove_0 23 rfl rfl)
theorem dJ19_remove_24 : decode cJ19_remove 24 = .ok (.getfield 13, 3) := dk_180 0 13 (dk_at dksJ19_remove_1 0 rfl rfl)
theorem dJ19_remove_27 : decode cJ19_remove 27 = .ok (.invokevirtual 47, 3) := dk_182 0 47 (dk_at dksJ19_remove_1 3 rfl rfl)
theorem dJ19_remove_30 : decode cJ19_remove 30 = .ok (.pop, 1) := dk_87 (dk_at dksJ19_remove_1 6 rfl rfl)
theorem dJ19_remove_31 : decode cJ19_remove 31 = .ok (.aload_n 0, 1) := dk_42 (dk_at dksJ19_remove_1 7 rfl rfl)
theorem dJ19_remove_32 : decode cJ19_remove 32 = .ok (.aload_n 0, 1) := dk_42 (dk_at dksJ19_remove_1 8 rfl rfl)
theorem dJ19_remove_33 : decode cJ19_remove 33 = .ok (.getfield 13, 3) := dk_180 0 13 (dk_at dksJ19_remove_1 9 rfl rfl)
theorem dJ19_remove_36 : decode cJ19_remove 36 = .ok (.putfield 25, 3) := dk_181 0 25 (dk_at dksJ19_remove_1 12 rfl rfl)
theorem dJ19_remove_39 : decode cJ19_remove 39 = .ok (.aload_n 0, 1) := dk_42 (dk_at dksJ19_remove_1 15 rfl rfl)
theorem dJ19_remove_40 : decode cJ19_remove 40 = .ok (.iconst (-1), 1) := dk_2 (dk_at dksJ19_remove_1 16 rfl rfl)
theorem dJ19_remove_41 : decode cJ19_remove 41 = .ok (.putfield 13, 3) := dk_181 0 13 (dk_at dksJ19_remove_1 17 rfl rfl)
theorem dJ19_remove_44 : decode cJ19_remove 44 = .ok (.aload_n 0, 1) := dk_42 (dk_at dksJ19_remove_1 20 rfl rfl)
theorem dJ19_remove_45 : decode cJ19_remove 45 = .ok (.aload_n 0, 1) := dk_42 (dk_at dksJ19_remove_1 21 rfl rfl)
theorem dJ19_remove_46 : decode cJ19_remove 46 = .ok (.getfield 1, 3) := dk_180 0 1 (dk_at dksJ19_remove_2 0 rfl rfl)
theorem dJ19_remove_49 : decode cJ19_remove 49 = .ok (.getfield 17, 3) := dk_180 0 17 (dk_at dksJ19_remove_2 3 rfl rfl)
theorem dJ19_remove_52 : decode cJ19_remove 52 = .ok (.putfield 22, 3) := dk_181 0 22 (dk_at dksJ19_remove_2 6 rfl rfl)
theorem dJ19_remove_55 : decode cJ19_remove 55 = .ok (.goto 12, 3) := dk_167 0 12 (dk_at dksJ19_remove_2 9 rfl rfl)
theorem dJ19_remove_58 : decode cJ19_remove 58 = .ok (.astore_n 1, 1) := dk_76 (dk_at dksJ19_remove_2 12 rfl rfl)
theorem dJ19_remove_59 : decode cJ19_remove 59 = .ok (.new 41, 3) := dk_187 0 41 (dk_at dksJ19_remove_2 13 rfl rfl)
theorem dJ19_remove_62 : decode cJ19_remove 62 = .ok (.dup, 1) := dk_89 (dk_at dksJ19_remove_2 16 rfl rfl)
theorem dJ19_remove_63 : decode cJ19_remove 63 = .ok (.invokespecial 43, 3) := dk_183 0 43 (dk_at dksJ19_remove_2 17 rfl rfl)
theorem dJ19_remove_66 : decode cJ19_remove 66 = .ok (.athrow, 1) := dk_191 (dk_at dksJ19_remove_2 20 rfl rfl)
theorem dJ19_remove_67 : decode cJ19_remove 67 = .ok (.return_, 1) := dk_177 (dk_at dksJ19_remove_2 21 rfl rfl)
theorem q104 : (Jvm.Cond.initialized "java/util/ArrayList$Itr") ∈ lw_all := lw_g (lw_at lw_m1 28 rfl) rfl
theorem q180 : (Jvm.Cond.fieldLink "java/util/ArrayList$Itr" (37 : Nat) "java/util/ArrayList" "elementData" "[Ljava/lang/Object;") ∈ lw_all := lw_g (lw_at lw_m1 104 rfl) rfl
theorem q181 : (Jvm.Cond.fieldLinkNest "java/util/ArrayList$Itr" (28 : Nat) "java/util/ArrayList" "size" "I" "java/util/ArrayList") ∈ lw_tbl := lw_at lw_m1 105 rfl
theorem q184 : (Jvm.Cond.fieldLink "java/util/ArrayList$Itr" (17 : Nat) "java/util/ArrayList" "modCount" "I") ∈ lw_all := lw_g (lw_at lw_m1 108 rfl) rfl
theorem q765 : (Jvm.Cond.selects "java/util/ArrayList$Itr" ({ cls := "java/lang/Object", name := "getClass", desc := "()Ljava/lang/Class;" } : Jvm.MethodName) ({ cls := "java/lang/Object", name := "getClass", desc := "()Ljava/lang/Class;" } : Jvm.MethodName)) ∈ lw_all := lw_g (lw_at lw_m3 209 rfl) rfl
theorem q809 : (Jvm.Cond.instantiable "java/util/ArrayList$Itr" (4 : Nat)) ∈ lw_all := lw_g (lw_at lw_m4 13 rfl) rfl
theorem q811 : (Jvm.Cond.instanceMethod ({ cls := "java/util/ArrayList$Itr", name := "<init>", desc := "(Ljava/util/ArrayList;)V" } : Jvm.MethodName)) ∈ lw_all := lw_g (lw_at lw_m4 15 rfl) rfl
theorem q812 : (Jvm.Cond.code ({ cls := "java/util/ArrayList$Itr", name := "<init>", desc := "(Ljava/util/ArrayList;)V" } : Jvm.MethodName) prog_59_method_1_code (2 : Nat) (Option.none : Option Jvm.ClassFile.FieldType)) ∈ lw_all := lw_g (lw_at lw_m4 16 rfl) rfl
theorem q813 : (Jvm.Cond.methodLink "java/util/ArrayList$Itr" (7 : Nat) ({ cls := "java/lang/Object", name := "<init>", desc := "()V" } : Jvm.MethodName)) ∈ lw_all := lw_g (lw_at lw_m4 17 rfl) rfl
theorem q814 : (Jvm.Cond.fieldLink "java/util/ArrayList$Itr" (25 : Nat) "java/util/ArrayList$Itr" "cursor" "I") ∈ lw_all := lw_g (lw_at lw_m4 18 rfl) rfl
theorem q815 : (Jvm.Cond.fieldLink "java/util/ArrayList$Itr" (13 : Nat) "java/util/ArrayList$Itr" "lastRet" "I") ∈ lw_all := lw_g (lw_at lw_m4 19 rfl) rfl
theorem q816 : (Jvm.Cond.fieldLink "java/util/ArrayList$Itr" (22 : Nat) "java/util/ArrayList$Itr" "expectedModCount" "I") ∈ lw_all := lw_g (lw_at lw_m4 20 rfl) rfl
theorem q817 : (Jvm.Cond.fieldLink "java/util/ArrayList$Itr" (1 : Nat) "java/util/ArrayList$Itr" "this$0" "Ljava/util/ArrayList;") ∈ lw_all := lw_g (lw_at lw_m4 21 rfl) rfl
theorem q818 : (Jvm.Cond.lays "java/util/ArrayList$Itr" "java/util/ArrayList$Itr" "cursor" "I") ∈ lw_all := lw_g (lw_at lw_m4 22 rfl) rfl
theorem q819 : (Jvm.Cond.soleField "java/util/ArrayList$Itr" "cursor") ∈ lw_all := lw_g (lw_at lw_m4 23 rfl) rfl
theorem q820 : (Jvm.Cond.lays "java/util/ArrayList$Itr" "java/util/ArrayList$Itr" "lastRet" "I") ∈ lw_all := lw_g (lw_at lw_m4 24 rfl) rfl
theorem q821 : (Jvm.Cond.soleField "java/util/ArrayList$Itr" "lastRet") ∈ lw_all := lw_g (lw_at lw_m4 25 rfl) rfl
theorem q822 : (Jvm.Cond.lays "java/util/ArrayList$Itr" "java/util/ArrayList$Itr" "expectedModCount" "I") ∈ lw_all := lw_g (lw_at lw_m4 26 rfl) rfl
theorem q823 : (Jvm.Cond.soleField "java/util/ArrayList$Itr" "expectedModCount") ∈ lw_all := lw_g (lw_at lw_m4 27 rfl) rfl
theorem q824 : (Jvm.Cond.laysFinal "java/util/ArrayList$Itr" "java/util/ArrayList$Itr" "this$0" "Ljava/util/ArrayList;") ∈ lw_all := lw_g (lw_at lw_m4 28 rfl) rfl
theorem q825 : (Jvm.Cond.soleField "java/util/ArrayList$Itr" "this$0") ∈ lw_all := lw_g (lw_at lw_m4 29 rfl) rfl
theorem q826 : (Jvm.Cond.superclass "java/util/ArrayList$Itr" "java/lang/Object") ∈ lw_all := lw_g (lw_at lw_m4 30 rfl) rfl
theorem q939 : (Jvm.Cond.castable "java/util/ArrayList$Itr" "java/util/Iterator") ∈ lw_tbl := lw_at lw_m4 143 rfl
theorem q940 : (Jvm.Cond.selects "java/util/ArrayList$Itr" ({ cls := "java/util/Iterator", name := "hasNext", desc := "()Z" } : Jvm.MethodName) ({ cls := "java/util/ArrayList$Itr", name := "hasNext", desc := "()Z" } : Jvm.MethodName)) ∈ lw_all := lw_g (lw_at lw_m4 144 rfl) rfl
theorem q941 : (Jvm.Cond.unhidden "java/util/ArrayList$Itr" "hasNext" "()Z") ∈ lw_tbl := lw_at lw_m4 145 rfl
theorem q942 : (Jvm.Cond.instanceMethod ({ cls := "java/util/ArrayList$Itr", name := "hasNext", desc := "()Z" } : Jvm.MethodName)) ∈ lw_all := lw_g (lw_at lw_m4 146 rfl) rfl
theorem q943 : (Jvm.Cond.publicMethod ({ cls := "java/util/ArrayList$Itr", name := "hasNext", desc := "()Z" } : Jvm.MethodName)) ∈ lw_tbl := lw_at lw_m4 147 rfl
theorem q944 : (Jvm.Cond.code ({ cls := "java/util/ArrayList$Itr", name := "hasNext", desc := "()Z" } : Jvm.MethodName) prog_59_method_2_code (1 : Nat) (Option.some Jvm.ClassFile.FieldType.boolean)) ∈ lw_all := lw_g (lw_at lw_m4 148 rfl) rfl
theorem q967 : (Jvm.Cond.selects "java/util/ArrayList$Itr" ({ cls := "java/util/Iterator", name := "next", desc := "()Ljava/lang/Object;" } : Jvm.MethodName) ({ cls := "java/util/ArrayList$Itr", name := "next", desc := "()Ljava/lang/Object;" } : Jvm.MethodName)) ∈ lw_all := lw_g (lw_at lw_m4 171 rfl) rfl
theorem q968 : (Jvm.Cond.unhidden "java/util/ArrayList$Itr" "next" "()Ljava/lang/Object;") ∈ lw_tbl := lw_at lw_m4 172 rfl
theorem q969 : (Jvm.Cond.instanceMethod ({ cls := "java/util/ArrayList$Itr", name := "next", desc := "()Ljava/lang/Object;" } : Jvm.MethodName)) ∈ lw_all := lw_g (lw_at lw_m4 173 rfl) rfl
theorem q970 : (Jvm.Cond.publicMethod ({ cls := "java/util/ArrayList$Itr", name := "next", desc := "()Ljava/lang/Object;" } : Jvm.MethodName)) ∈ lw_tbl := lw_at lw_m4 174 rfl
theorem q971 : (Jvm.Cond.code ({ cls := "java/util/ArrayList$Itr", name := "next", desc := "()Ljava/lang/Object;" } : Jvm.MethodName) prog_59_method_3_code (3 : Nat) (Option.some (Jvm.ClassFile.FieldType.object "java/lang/Object"))) ∈ lw_all := lw_g (lw_at lw_m4 175 rfl) rfl
theorem q972 : (Jvm.Cond.methodLink "java/util/ArrayList$Itr" (31 : Nat) ({ cls := "java/util/ArrayList$Itr", name := "checkForComodification", desc := "()V" } : Jvm.MethodName)) ∈ lw_all := lw_g (lw_at lw_m4 176 rfl) rfl
theorem q973 : (Jvm.Cond.instanceMethod ({ cls := "java/util/ArrayList$Itr", name := "checkForComodification", desc := "()V" } : Jvm.MethodName)) ∈ lw_all := lw_g (lw_at lw_m4 177 rfl) rfl
theorem q974 : (Jvm.Cond.selects "java/util/ArrayList$Itr" ({ cls := "java/util/ArrayList$Itr", name := "checkForComodification", desc := "()V" } : Jvm.MethodName) ({ cls := "java/util/ArrayList$Itr", name := "checkForComodification", desc := "()V" } : Jvm.MethodName)) ∈ lw_all := lw_g (lw_at lw_m4 178 rfl) rfl
theorem q975 : (Jvm.Cond.code ({ cls := "java/util/ArrayList$Itr", name := "checkForComodification", desc := "()V" } : Jvm.MethodName) prog_59_method_6_code (1 : Nat) (Option.none : Option Jvm.ClassFile.FieldType)) ∈ lw_all := lw_g (lw_at lw_m4 179 rfl) rfl
theorem q976 : (Jvm.Cond.classLink "java/util/ArrayList$Itr" (34 : Nat) "java/util/NoSuchElementException") ∈ lw_all := lw_g (lw_at lw_m4 180 rfl) rfl
theorem q985 : (Jvm.Cond.methodLink "java/util/ArrayList$Itr" (36 : Nat) ({ cls := "java/util/NoSuchElementException", name := "<init>", desc := "()V" } : Jvm.MethodName)) ∈ lw_all := lw_g (lw_at lw_m4 189 rfl) rfl
theorem q2245 : (Jvm.Cond.selects "java/util/ArrayList$Itr" ({ cls := "java/util/Iterator", name := "remove", desc := "()V" } : Jvm.MethodName) ({ cls := "java/util/ArrayList$Itr", name := "remove", desc := "()V" } : Jvm.MethodName)) ∈ lw_all := lw_g (lw_at lw_m10 9 rfl) rfl
theorem q2246 : (Jvm.Cond.unhidden "java/util/ArrayList$Itr" "remove" "()V") ∈ lw_tbl := lw_at lw_m10 10 rfl
theorem q2247 : (Jvm.Cond.instanceMethod ({ cls := "java/util/ArrayList$Itr", name := "remove", desc := "()V" } : Jvm.MethodName)) ∈ lw_all := lw_g (lw_at lw_m10 11 rfl) rfl
theorem q2248 : (Jvm.Cond.publicMethod ({ cls := "java/util/ArrayList$Itr", name := "remove", desc := "()V" } : Jvm.MethodName)) ∈ lw_tbl := lw_at lw_m10 12 rfl
theorem q2249 : (Jvm.Cond.codeWith ({ cls := "java/util/ArrayList$Itr", name := "remove", desc := "()V" } : Jvm.MethodName) prog_59_method_4_code (2 : Nat) (Option.none : Option Jvm.ClassFile.FieldType) [((19 : Nat), (55 : Nat), (58 : Nat), (51 : Nat))]) ∈ lw_all := lw_g (lw_at lw_m10 13 rfl) rfl
theorem q2250 : (Jvm.Cond.classLink "java/util/ArrayList$Itr" (44 : Nat) "java/lang/IllegalStateException") ∈ lw_all := lw_g (lw_at lw_m10 14 rfl) rfl
theorem q2251 : (Jvm.Cond.methodLink "java/util/ArrayList$Itr" (46 : Nat) ({ cls := "java/lang/IllegalStateException", name := "<init>", desc := "()V" } : Jvm.MethodName)) ∈ lw_all := lw_g (lw_at lw_m10 15 rfl) rfl
theorem q2252 : (Jvm.Cond.methodLink "java/util/ArrayList$Itr" (47 : Nat) ({ cls := "java/util/ArrayList", name := "remove", desc := "(I)Ljava/lang/Object;" } : Jvm.MethodName)) ∈ lw_all := lw_g (lw_at lw_m10 16 rfl) rfl
theorem q2261 : (Jvm.Cond.classLink "java/util/ArrayList$Itr" (41 : Nat) "java/util/ConcurrentModificationException") ∈ lw_all := lw_g (lw_at lw_m10 25 rfl) rfl
theorem q2270 : (Jvm.Cond.methodLink "java/util/ArrayList$Itr" (43 : Nat) ({ cls := "java/util/ConcurrentModificationException", name := "<init>", desc := "()V" } : Jvm.MethodName)) ∈ lw_all := lw_g (lw_at lw_m10 34 rfl) rfl
theorem q3692 : (Jvm.Cond.castable "java/util/ArrayList$Itr" "java/lang/Object") ∈ lw_tbl := lw_at lw_m16 16 rfl
theorem in_J19 : ∀ w ∈ wsJ190, w ∈ lw_all := lw_in wsJ190 [818, 820, 822, 824] (by decide +kernel) (by decide +kernel)
/-! java/util/NoSuchElementException -/
def RJ20 : String := "java/util/NoSuchElementException"
def TJ20 : u_T := fun k => match k with
  | 0 => ("java/lang/Throwable", "cause", "Ljava/lang/Throwable;", false)
  | 1 => ("java/lang/Throwable", "stackTrace", "[Ljava/lang/StackTraceElement;", false)
  | 2 => ("java/lang/Throwable", "suppressedExceptions", "Ljava/util/List;", false)
  | 3 => ("java/lang/Throwable", "detailMessage", "Ljava/lang/String;", false)
  | 4 => ("java/lang/Throwable", "backtrace", "Ljava/lang/Object;", false)
  | _ => ("java/lang/Throwable", "depth", "I", false)
def tyJ20 : Nat → FieldType := fun k => match k with
  | 0 => .object "java/lang/Throwable"
  | 1 => .array (.object "java/lang/StackTraceElement")
  | 2 => .object "java/util/List"
  | 3 => .object "java/lang/String"
  | 4 => .object "java/lang/Object"
  | _ => .int
abbrev wsJ200 : List Cond := u_ws RJ20 TJ20 6
theorem nmJ20 : ∀ a, a < 6 → ∀ b, b < 6 → a ≠ b → (TJ20 a).2.1 ≠ (TJ20 b).2.1 := by decide +kernel
theorem tyJ20_ok : ∀ k, k < 6 → parseFieldDescriptor (TJ20 k).2.2.1 = some (tyJ20 k) := by decide +kernel
abbrev cJ20_init : ByteArray := prog_78_method_1_code
def yJ20_init : MethodName := ⟨RJ20, "<init>", "()V"⟩
theorem dJ20_init_0 : decode cJ20_init 0 = .ok (.aload_n 0, 1) := by decide +kernel
theorem dJ20_init_1 : decode cJ20_init 1 = .ok (.invokespecial 1, 3) := by decide +kernel
theorem dJ20_init_4 : decode cJ20_init 4 = .ok (.return_, 1) := by decide +kernel
theorem q105 : (Jvm.Cond.initialized "java/util/NoSuchElementException") ∈ lw_all := lw_g (lw_at lw_m1 29 rfl) rfl
theorem q378 : (Jvm.Cond.selects "java/util/NoSuchElementException" ({ cls := "java/lang/Throwable", name := "fillInStackTrace", desc := "()Ljava/lang/Throwable;" } : Jvm.MethodName) ({ cls := "java/lang/Throwable", name := "fillInStackTrace", desc := "()Ljava/lang/Throwable;" } : Jvm.MethodName)) ∈ lw_all := lw_g (lw_at lw_m2 62 rfl) rfl
theorem q773 : (Jvm.Cond.selects "java/util/NoSuchElementException" ({ cls := "java/lang/Object", name := "getClass", desc := "()Ljava/lang/Class;" } : Jvm.MethodName) ({ cls := "java/lang/Object", name := "getClass", desc := "()Ljava/lang/Class;" } : Jvm.MethodName)) ∈ lw_all := lw_g (lw_at lw_m3 217 rfl) rfl
theorem q977 : (Jvm.Cond.instantiable "java/util/NoSuchElementException" (6 : Nat)) ∈ lw_all := lw_g (lw_at lw_m4 181 rfl) rfl
theorem q978 : (Jvm.Cond.castable "java/util/NoSuchElementException" "java/util/NoSuchElementException") ∈ lw_tbl := lw_at lw_m4 182 rfl
theorem q979 : (Jvm.Cond.selects "java/util/NoSuchElementException" ({ cls := "java/lang/Throwable", name := "fillInStackTrace", desc := "(I)Ljava/lang/Throwable;" } : Jvm.MethodName) ({ cls := "java/lang/Throwable", name := "fillInStackTrace", desc := "(I)Ljava/lang/Throwable;" } : Jvm.MethodName)) ∈ lw_all := lw_g (lw_at lw_m4 183 rfl) rfl
theorem q980 : (Jvm.Cond.lays "java/util/NoSuchElementException" "java/lang/Throwable" "cause" "Ljava/lang/Throwable;") ∈ lw_all := lw_g (lw_at lw_m4 184 rfl) rfl
theorem q981 : (Jvm.Cond.lays "java/util/NoSuchElementException" "java/lang/Throwable" "stackTrace" "[Ljava/lang/StackTraceElement;") ∈ lw_all := lw_g (lw_at lw_m4 185 rfl) rfl
theorem q982 : (Jvm.Cond.lays "java/util/NoSuchElementException" "java/lang/Throwable" "suppressedExceptions" "Ljava/util/List;") ∈ lw_all := lw_g (lw_at lw_m4 186 rfl) rfl
theorem q983 : (Jvm.Cond.lays "java/util/NoSuchElementException" "java/lang/Throwable" "detailMessage" "Ljava/lang/String;") ∈ lw_all := lw_g (lw_at lw_m4 187 rfl) rfl
theorem q984 : (Jvm.Cond.lays "java/util/NoSuchElementException" "java/lang/Throwable" "backtrace" "Ljava/lang/Object;") ∈ lw_all := lw_g (lw_at lw_m4 188 rfl) rfl
theorem q986 : (Jvm.Cond.instanceMethod ({ cls := "java/util/NoSuchElementException", name := "<init>", desc := "()V" } : Jvm.MethodName)) ∈ lw_all := lw_g (lw_at lw_m4 190 rfl) rfl
theorem q987 : (Jvm.Cond.code ({ cls := "java/util/NoSuchElementException", name := "<init>", desc := "()V" } : Jvm.MethodName) prog_78_method_1_code (1 : Nat) (Option.none : Option Jvm.ClassFile.FieldType)) ∈ lw_all := lw_g (lw_at lw_m4 191 rfl) rfl
theorem q988 : (Jvm.Cond.methodLink "java/util/NoSuchElementException" (1 : Nat) ({ cls := "java/lang/RuntimeException", name := "<init>", desc := "()V" } : Jvm.MethodName)) ∈ lw_all := lw_g (lw_at lw_m4 192 rfl) rfl
theorem q995 : (Jvm.Cond.lays "java/util/NoSuchElementException" "java/lang/Throwable" "depth" "I") ∈ lw_all := lw_g (lw_at lw_m4 199 rfl) rfl
theorem q996 : (Jvm.Cond.superclass "java/util/NoSuchElementException" "java/lang/RuntimeException") ∈ lw_all := lw_g (lw_at lw_m4 200 rfl) rfl
theorem q3693 : (Jvm.Cond.castable "java/util/NoSuchElementException" "java/lang/Object") ∈ lw_tbl := lw_at lw_m16 17 rfl
theorem in_J20 : ∀ w ∈ wsJ200, w ∈ lw_all := lw_in wsJ200 [980, 981, 982, 983, 984, 995] (by decide +kernel) (by decide +kernel)
/-! java/lang/AbstractStringBuilder -/
def RJ21 : String := "java/lang/AbstractStringBuilder"
abbrev cJ21_init : ByteArray := prog_25_method_2_code
def yJ21_init : MethodName := ⟨RJ21, "<init>", "(I)V"⟩
def dkwJ21_init_1 : List UInt8 := [167, 0, 16, 42, 27, 184, 0, 26, 181, 0, 15, 42, 4, 181, 0, 22, 177]
abbrev dktJ21_init_1 : List UInt8 := dkwJ21_init_1 ++ []
def dkwJ21_init_0 : List UInt8 := [42, 183, 0, 3, 178, 0, 18, 153, 0, 18, 42, 27, 188, 8, 181, 0, 15, 42, 3, 181, 0, 22]
abbrev dktJ21_init_0 : List UInt8 := dkwJ21_init_0 ++ dktJ21_init_1
theorem dksJ21_init_0 : cJ21_init.data.toList.drop 0 = dktJ21_init_0 := by decide +kernel
theorem dksJ21_init_1 : cJ21_init.data.toList.drop 22 = dktJ21_init_1 := dk_seg dksJ21_init_0 22 rfl rfl
theorem dJ21_init_0 : decode cJ21_init 0 = .ok (.aload_n 0, 1) := dk_42 (dk_at dksJ21_init_0 0 rfl rfl)
theorem dJ21_init_1 : decode cJ21_init 1 = .ok (.invokespecial 3, 3) := dk_183 0 3 (dk_at dksJ21_init_0 1 rfl rfl)
theorem dJ21_init_4 : decode cJ21_init 4 = .ok (.getstatic 18, 3) := dk_178 0 18 (dk_at dksJ21_init_0 4 rfl rfl)
theorem dJ21_init_7 : decode cJ21_init 7 = .ok (.ifCond .eq 18, 3) := dk_153 0 18 (dk_at dksJ21_init_0 7 rfl rfl)
theorem dJ21_init_10 : decode cJ21_init 10 = .ok (.aload_n 0, 1) := dk_42 (dk_at dksJ21_init_0 10 rfl rfl)
theorem dJ21_init_11 : decode cJ21_init 11 = .ok (.iload_n 1, 1) := dk_27 (dk_at dksJ21_init_0 11 rfl rfl)
theorem dJ21_init_12 : decode cJ21_init 12 = .ok (.newarray .byte, 2) := dk_188_8 (dk_at dksJ21_init_0 12 rfl rfl)
theorem dJ21_init_14 : decode cJ21_init 14 = .ok (.putfield 15, 3) := dk_181 0 15 (dk_at dksJ21_init_0 14 rfl rfl)
theorem dJ21_init_17 : decode cJ21_init 17 = .ok (.aload_n 0, 1) := dk_42 (dk_at dksJ21_init_0 17 rfl rfl)
theorem dJ21_init_18 : decode cJ21_init 18 = .ok (.iconst 0, 1) := dk_3 (dk_at dksJ21_init_0 18 rfl rfl)
theorem dJ21_init_19 : decode cJ21_init 19 = .ok (.putfield 22, 3) := dk_181 0 22 (dk_at dksJ21_init_0 19 rfl rfl)
theorem dJ21_init_22 : decode cJ21_init 22 = .ok (.goto 16, 3) := dk_167 0 16 (dk_at dksJ21_init_1 0 rfl rfl)
theorem dJ21_init_25 : decode cJ21_init 25 = .ok (.aload_n 0, 1) := dk_42 (dk_at dksJ21_init_1 3 rfl rfl)
theorem dJ21_init_26 : decode cJ21_init 26 = .ok (.iload_n 1, 1) := dk_27 (dk_at dksJ21_init_1 4 rfl rfl)
theorem dJ21_init_27 : decode cJ21_init 27 = .ok (.invokestatic 26, 3) := dk_184 0 26 (dk_at dksJ21_init_1 5 rfl rfl)
theorem dJ21_init_30 : decode cJ21_init 30 = .ok (.putfield 15, 3) := dk_181 0 15 (dk_at dksJ21_init_1 8 rfl rfl)
theorem dJ21_init_33 : decode cJ21_init 33 = .ok (.aload_n 0, 1) := dk_42 (dk_at dksJ21_init_1 11 rfl rfl)
theorem dJ21_init_34 : decode cJ21_init 34 = .ok (.iconst 1, 1) := dk_4 (dk_at dksJ21_init_1 12 rfl rfl)
theorem dJ21_init_35 : decode cJ21_init 35 = .ok (.putfield 22, 3) := dk_181 0 22 (dk_at dksJ21_init_1 13 rfl rfl)
theorem dJ21_init_38 : decode cJ21_init 38 = .ok (.return_, 1) := dk_177 (dk_at dksJ21_init_1 16 rfl rfl)
abbrev cJ21_append : ByteArray := prog_25_method_22_code
def yJ21_append : MethodName := ⟨RJ21, "append", "(Ljava/lang/String;)Ljava/lang/AbstractStringBuilder;"⟩
def dkwJ21_append_1 : List UInt8 := [42, 42, 180, 0, 79, 43, 182, 0, 208, 42, 89, 180, 0, 79, 28, 96, 181, 0, 79, 42, 176]
abbrev dktJ21_append_1 : List UInt8 := dkwJ21_append_1 ++ []
def dkwJ21_append_0 : List UInt8 := [43, 199, 0, 8, 42, 182, 0, 204, 176, 43, 182, 0, 32, 61, 42, 42, 180, 0, 79, 28, 96, 182, 0, 100]
abbrev dktJ21_append_0 : List UInt8 := dkwJ21_append_0 ++ dktJ21_append_1
theorem dksJ21_append_0 : cJ21_append.data.toList.drop 0 = dktJ21_append_0 := by decide +kernel
theorem dksJ21_append_1 : cJ21_append.data.toList.drop 24 = dktJ21_append_1 := dk_seg dksJ21_append_0 24 rfl rfl
theorem dJ21_append_0 : decode cJ21_append 0 = .ok (.aload_n 1, 1) := dk_43 (dk_at dksJ21_append_0 0 rfl rfl)
theorem dJ21_append_1 : decode cJ21_append 1 = .ok (.ifnonnull 8, 3) := dk_199 0 8 (dk_at dksJ21_append_0 1 rfl rfl)
theorem dJ21_append_4 : decode cJ21_append 4 = .ok (.aload_n 0, 1) := dk_42 (dk_at dksJ21_append_0 4 rfl rfl)
theorem dJ21_append_5 : decode cJ21_append 5 = .ok (.invokevirtual 204, 3) := dk_182 0 204 (dk_at dksJ21_append_0 5 rfl rfl)
theorem dJ21_append_8 : decode cJ21_append 8 = .ok (.areturn, 1) := dk_176 (dk_at dksJ21_append_0 8 rfl rfl)
theorem dJ21_append_9 : decode cJ21_append 9 = .ok (.aload_n 1, 1) := dk_43 (dk_at dksJ21_append_0 9 rfl rfl)
theorem dJ21_append_10 : decode cJ21_append 10 = .ok (.invokevirtual 32, 3) := dk_182 0 32 (dk_at dksJ21_append_0 10 rfl rfl)
theorem dJ21_append_13 : decode cJ21_append 13 = .ok (.istore_n 2, 1) := dk_61 (dk_at dksJ21_append_0 13 rfl rfl)
theorem dJ21_append_14 : decode cJ21_append 14 = .ok (.aload_n 0, 1) := dk_42 (dk_at dksJ21_append_0 14 rfl rfl)
theorem dJ21_append_15 : decode cJ21_append 15 = .ok (.aload_n 0, 1) := dk_42 (dk_at dksJ21_append_0 15 rfl rfl)
theorem dJ21_append_16 : decode cJ21_append 16 = .ok (.getfield 79, 3) := dk_180 0 79 (dk_at dksJ21_append_0 16 rfl rfl)
theorem dJ21_append_19 : decode cJ21_append 19 = .ok (.iload_n 2, 1) := dk_28 (dk_at dksJ21_append_0 19 rfl rfl)
theorem dJ21_append_20 : decode cJ21_append 20 = .ok (.iadd, 1) := dk_96 (dk_at dksJ21_append_0 20 rfl rfl)
theorem dJ21_append_21 : decode cJ21_append 21 = .ok (.invokevirtual 100, 3) := dk_182 0 100 (dk_at dksJ21_append_0 21 rfl rfl)
theorem dJ21_append_24 : decode cJ21_append 24 = .ok (.aload_n 0, 1) := dk_42 (dk_at dksJ21_append_1 0 rfl rfl)
theorem dJ21_append_25 : decode cJ21_append 25 = .ok (.aload_n 0, 1) := dk_42 (dk_at dksJ21_append_1 1 rfl rfl)
theorem dJ21_append_26 : decode cJ21_append 26 = .ok (.getfield 79, 3) := dk_180 0 79 (dk_at dksJ21_append_1 2 rfl rfl)
theorem dJ21_append_29 : decode cJ21_append 29 = .ok (.aload_n 1, 1) := dk_43 (dk_at dksJ21_append_1 5 rfl rfl)
theorem dJ21_append_30 : decode cJ21_append 30 = .ok (.invokevirtual 208, 3) := dk_182 0 208 (dk_at dksJ21_append_1 6 rfl rfl)
theorem dJ21_append_33 : decode cJ21_append 33 = .ok (.aload_n 0, 1) := dk_42 (dk_at dksJ21_append_1 9 rfl rfl)
theorem dJ21_append_34 : decode cJ21_append 34 = .ok (.dup, 1) := dk_89 (dk_at dksJ21_append_1 10 rfl rfl)
theorem dJ21_append_35 : decode cJ21_append 35 = .ok (.getfield 79, 3) := dk_180 0 79 (dk_at dksJ21_append_1 11 rfl rfl)
theorem dJ21_append_38 : decode cJ21_append 38 = .ok (.iload_n 2, 1) := dk_28 (dk_at dksJ21_append_1 14 rfl rfl)
theorem dJ21_append_39 : decode cJ21_append 39 = .ok (.iadd, 1) := dk_96 (dk_at dksJ21_append_1 15 rfl rfl)
theorem dJ21_append_40 : decode cJ21_append 40 = .ok (.putfield 79, 3) := dk_181 0 79 (dk_at dksJ21_append_1 16 rfl rfl)
theorem dJ21_append_43 : decode cJ21_append 43 = .ok (.aload_n 0, 1) := dk_42 (dk_at dksJ21_append_1 19 rfl rfl)
theorem dJ21_append_44 : decode cJ21_append 44 = .ok (.areturn, 1) := dk_176 (dk_at dksJ21_append_1 20 rfl rfl)
abbrev cJ21_appendNull : ByteArray := prog_25_method_26_code
def yJ21_appendNull : MethodName := ⟨RJ21, "appendNull", "()Ljava/lang/AbstractStringBuilder;"⟩
def dkwJ21_appendNull_3 : List UInt8 := [184, 0, 226, 60, 42, 27, 181, 0, 79, 42, 176]
abbrev dktJ21_appendNull_3 : List UInt8 := dkwJ21_appendNull_3 ++ []
def dkwJ21_appendNull_2 : List UInt8 := [16, 108, 84, 44, 27, 132, 1, 1, 16, 108, 84, 167, 0, 17, 44, 27, 16, 110, 16, 117, 16, 108, 16, 108]
abbrev dktJ21_appendNull_2 : List UInt8 := dkwJ21_appendNull_2 ++ dktJ21_appendNull_3
def dkwJ21_appendNull_1 : List UInt8 := [153, 0, 38, 44, 27, 132, 1, 1, 16, 110, 84, 44, 27, 132, 1, 1, 16, 117, 84, 44, 27, 132, 1, 1]
abbrev dktJ21_appendNull_1 : List UInt8 := dkwJ21_appendNull_1 ++ dktJ21_appendNull_2
def dkwJ21_appendNull_0 : List UInt8 := [42, 42, 180, 0, 79, 7, 96, 182, 0, 100, 42, 180, 0, 79, 60, 42, 180, 0, 15, 77, 42, 182, 0, 83]
abbrev dktJ21_appendNull_0 : List UInt8 := dkwJ21_appendNull_0 ++ dktJ21_appendNull_1
theorem dksJ21_appendNull_0 : cJ21_appendNull.data.toList.drop 0 = dktJ21_appendNull_0 := by decide +kernel
theorem dksJ21_appendNull_1 : cJ21_appendNull.data.toList.drop 24 = dktJ21_appendNull_1 := dk_seg dksJ21_appendNull_0 24 rfl rfl
theorem dksJ21_appendNull_2 : cJ21_appendNull.data.toList.drop 48 = dktJ21_appendNull_2 := dk_seg dksJ21_appendNull_1 24 rfl rfl
theorem dksJ21_appendNull_3 : cJ21_appendNull.data.toList.drop 72 = dktJ21_appendNull_3 := dk_seg dksJ21_appendNull_2 24 rfl rfl
theorem dJ21_appendNull_0 : decode cJ21_appendNull 0 = .ok (.aload_n 0, 1) := dk_42 (dk_at dksJ21_appendNull_0 0 rfl rfl)
theorem dJ21_appendNull_1 : decode cJ21_appendNull 1 = .ok (.aload_n 0, 1) := dk_42 (dk_at dksJ21_appendNull_0 1 rfl rfl)
theorem dJ21_appendNull_2 : decode cJ21_appendNull 2 = .ok (.getfield 79, 3) := dk_180 0 79 (dk_at dksJ21_appendNull_0 2 rfl rfl)
theorem dJ21_appendNull_5 : decode cJ21_appendNull 5 = .ok (.iconst 4, 1) := dk_7 (dk_at dksJ21_appendNull_0 5 rfl rfl)
theorem dJ21_appendNull_6 : decode cJ21_appendNull 6 = .ok (.iadd, 1) := dk_96 (dk_at dksJ21_appendNull_0 6 rfl rfl)
theorem dJ21_appendNull_7 : decode cJ21_appendNull 7 = .ok (.invokevirtual 100, 3) := dk_182 0 100 (dk_at dksJ21_appendNull_0 7 rfl rfl)
theorem dJ21_appendNull_10 : decode cJ21_appendNull 10 = .ok (.aload_n 0, 1) := dk_42 (dk_at dksJ21_appendNull_0 10 rfl rfl)
theorem dJ21_appendNull_11 : decode cJ21_appendNull 11 = .ok (.getfield 79, 3) := dk_180 0 79 (dk_at dksJ21_appendNull_0 11 rfl rfl)
theorem dJ21_appendNull_14 : decode cJ21_appendNull 14 = .ok (.istore_n 1, 1) := dk_60 (dk_at dksJ21_appendNull_0 14 rfl rfl)
theorem dJ21_appendNull_15 : decode cJ21_appendNull 15 = .ok (.aload_n 0, 1) := dk_42 (dk_at dksJ21_appendNull_0 15 rfl rfl)
theorem dJ21_appendNull_16 : decode cJ21_appendNull 16 = .ok (.getfield 15, 3) := dk_180 0 15 (dk_at dksJ21_appendNull_0 16 rfl rfl)
theorem dJ21_appendNull_19 : decode cJ21_appendNull 19 = .ok (.astore_n 2, 1) := dk_77 (dk_at dksJ21_appendNull_0 19 rfl rfl)
theorem dJ21_appendNull_20 : decode cJ21_appendNull 20 = .ok (.aload_n 0, 1) := dk_42 (dk_at dksJ21_appendNull_0 20 rfl rfl)
theorem dJ21_appendNull_21 : decode cJ21_appendNull 21 = .ok (.invokevirtual 83, 3) := dk_182 0 83 (dk_at dksJ21_appendNull_0 21 rfl rfl)
theorem dJ21_appendNull_24 : decode cJ21_appendNull 24 = .ok (.ifCond .eq 38, 3) := dk_153 0 38 (dk_at dksJ21_appendNull_1 0 rfl rfl)
theorem dJ21_appendNull_27 : decode cJ21_appendNull 27 = .ok (.aload_n 2, 1) := dk_44 (dk_at dksJ21_appendNull_1 3 rfl rfl)
theorem dJ21_appendNull_28 : decode cJ21_appendNull 28 = .ok (.iload_n 1, 1) := dk_27 (dk_at dksJ21_appendNull_1 4 rfl rfl)
theorem dJ21_appendNull_29 : decode cJ21_appendNull 29 = .ok (.iinc 1 1, 3) := dk_132 1 1 (dk_at dksJ21_appendNull_1 5 rfl rfl)
theorem dJ21_appendNull_32 : decode cJ21_appendNull 32 = .ok (.bipush 110, 2) := dk_16 110 (dk_at dksJ21_appendNull_1 8 rfl rfl)
theorem dJ21_appendNull_34 : decode cJ21_appendNull 34 = .ok (.bastore, 1) := dk_84 (dk_at dksJ21_appendNull_1 10 rfl rfl)
theorem dJ21_appendNull_35 : decode cJ21_appendNull 35 = .ok (.aload_n 2, 1) := dk_44 (dk_at dksJ21_appendNull_1 11 rfl rfl)
theorem dJ21_appendNull_36 : decode cJ21_appendNull 36 = .ok (.iload_n 1, 1) := dk_27 (dk_at dksJ21_appendNull_1 12 rfl rfl)
theorem dJ21_appendNull_37 : decode cJ21_appendNull 37 = .ok (.iinc 1 1, 3) := dk_132 1 1 (dk_at dksJ21_appendNull_1 13 rfl rfl)
theorem dJ21_appendNull_40 : decode cJ21_appendNull 40 = .ok (.bipush 117, 2) := dk_16 117 (dk_at dksJ21_appendNull_1 16 rfl rfl)
theorem dJ21_appendNull_42 : decode cJ21_appendNull 42 = .ok (.bastore, 1) := dk_84 (dk_at dksJ21_appendNull_1 18 rfl rfl)
theorem dJ21_appendNull_43 : decode cJ21_appendNull 43 = .ok (.aload_n 2, 1) := dk_44 (dk_at dksJ21_appendNull_1 19 rfl rfl)
theorem dJ21_appendNull_44 : decode cJ21_appendNull 44 = .ok (.iload_n 1, 1) := dk_27 (dk_at dksJ21_appendNull_1 20 rfl rfl)
theorem dJ21_appendNull_45 : decode cJ21_appendNull 45 = .ok (.iinc 1 1, 3) := dk_132 1 1 (dk_at dksJ21_appendNull_1 21 rfl rfl)
theorem dJ21_appendNull_48 : decode cJ21_appendNull 48 = .ok (.bipush 108, 2) := dk_16 108 (dk_at dksJ21_appendNull_2 0 rfl rfl)
theorem dJ21_appendNull_50 : decode cJ21_appendNull 50 = .ok (.bastore, 1) := dk_84 (dk_at dksJ21_appendNull_2 2 rfl rfl)
theorem dJ21_appendNull_51 : decode cJ21_appendNull 51 = .ok (.aload_n 2, 1) := dk_44 (dk_at dksJ21_appendNull_2 3 rfl rfl)
theorem dJ21_appendNull_52 : decode cJ21_appendNull 52 = .ok (.iload_n 1, 1) := dk_27 (dk_at dksJ21_appendNull_2 4 rfl rfl)
theorem dJ21_appendNull_53 : decode cJ21_appendNull 53 = .ok (.iinc 1 1, 3) := dk_132 1 1 (dk_at dksJ21_appendNull_2 5 rfl rfl)
theorem dJ21_appendNull_56 : decode cJ21_appendNull 56 = .ok (.bipush 108, 2) := dk_16 108 (dk_at dksJ21_appendNull_2 8 rfl rfl)
theorem dJ21_appendNull_58 : decode cJ21_appendNull 58 = .ok (.bastore, 1) := dk_84 (dk_at dksJ21_appendNull_2 10 rfl rfl)
theorem dJ21_appendNull_59 : decode cJ21_appendNull 59 = .ok (.goto 17, 3) := dk_167 0 17 (dk_at dksJ21_appendNull_2 11 rfl rfl)
theorem dJ21_appendNull_62 : decode cJ21_appendNull 62 = .ok (.aload_n 2, 1) := dk_44 (dk_at dksJ21_appendNull_2 14 rfl rfl)
theorem dJ21_appendNull_63 : decode cJ21_appendNull 63 = .ok (.iload_n 1, 1) := dk_27 (dk_at dksJ21_appendNull_2 15 rfl rfl)
theorem dJ21_appendNull_64 : decode cJ21_appendNull 64 = .ok (.bipush 110, 2) := dk_16 110 (dk_at dksJ21_appendNull_2 16 rfl rfl)
theorem dJ21_appendNull_66 : decode cJ21_appendNull 66 = .ok (.bipush 117, 2) := dk_16 117 (dk_at dksJ21_appendNull_2 18 rfl rfl)
theorem dJ21_appendNull_68 : decode cJ21_appendNull 68 = .ok (.bipush 108, 2) := dk_16 108 (dk_at dksJ21_appendNull_2 20 rfl rfl)
theorem dJ21_appendNull_70 : decode cJ21_appendNull 70 = .ok (.bipush 108, 2) := dk_16 108 (dk_at dksJ21_appendNull_2 22 rfl rfl)
theorem dJ21_appendNull_72 : decode cJ21_appendNull 72 = .ok (.invokestatic 226, 3) := dk_184 0 226 (dk_at dksJ21_appendNull_3 0 rfl rfl)
theorem dJ21_appendNull_75 : decode cJ21_appendNull 75 = .ok (.istore_n 1, 1) := dk_60 (dk_at dksJ21_appendNull_3 3 rfl rfl)
theorem dJ21_appendNull_76 : decode cJ21_appendNull 76 = .ok (.aload_n 0, 1) := dk_42 (dk_at dksJ21_appendNull_3 4 rfl rfl)
theorem dJ21_appendNull_77 : decode cJ21_appendNull 77 = .ok (.iload_n 1, 1) := dk_27 (dk_at dksJ21_appendNull_3 5 rfl rfl)
theorem dJ21_appendNull_78 : decode cJ21_appendNull 78 = .ok (.putfield 79, 3) := dk_181 0 79 (dk_at dksJ21_appendNull_3 6 rfl rfl)
theorem dJ21_appendNull_81 : decode cJ21_appendNull 81 = .ok (.aload_n 0, 1) := dk_42 (dk_at dksJ21_appendNull_3 9 rfl rfl)
theorem dJ21_appendNull_82 : decode cJ21_appendNull 82 = .ok (.areturn, 1) := dk_176 (dk_at dksJ21_appendNull_3 10 rfl rfl)
abbrev cJ21_ensureCapacityInternal : ByteArray := prog_25_method_9_code
def yJ21_ensureCapacityInternal : MethodName := ⟨RJ21, "ensureCapacityInternal", "(I)V"⟩
def dkwJ21_ensureCapacityInternal_1 : List UInt8 := [182, 0, 104, 42, 180, 0, 22, 120, 184, 0, 108, 181, 0, 15, 177]
abbrev dktJ21_ensureCapacityInternal_1 : List UInt8 := dkwJ21_ensureCapacityInternal_1 ++ []
def dkwJ21_ensureCapacityInternal_0 : List UInt8 := [42, 180, 0, 15, 190, 42, 180, 0, 22, 122, 61, 27, 28, 100, 158, 0, 24, 42, 42, 180, 0, 15, 42, 27]
abbrev dktJ21_ensureCapacityInternal_0 : List UInt8 := dkwJ21_ensureCapacityInternal_0 ++ dktJ21_ensureCapacityInternal_1
theorem dksJ21_ensureCapacityInternal_0 : cJ21_ensureCapacityInternal.data.toList.drop 0 = dktJ21_ensureCapacityInternal_0 := by decide +kernel
theorem dksJ21_ensureCapacityInternal_1 : cJ21_ensureCapacityInternal.data.toList.drop 24 = dktJ21_ensureCapacityInternal_1 := dk_seg dksJ21_ensureCapacityInternal_0 24 rfl rfl
theorem dJ21_ensureCapacityInternal_0 : decode cJ21_ensureCapacityInternal 0 = .ok (.aload_n 0, 1) := dk_42 (dk_at dksJ21_ensureCapacityInternal_0 0 rfl rfl)
theorem dJ21_ensureCapacityInternal_1 : decode cJ21_ensureCapacityInternal 1 = .ok (.getfield 15, 3) := dk_180 0 15 (dk_at dksJ21_ensureCapacityInternal_0 1 rfl rfl)
theorem dJ21_ensureCapacityInternal_4 : decode cJ21_ensureCapacityInternal 4 = .ok (.arraylength, 1) := dk_190 (dk_at dksJ21_ensureCapacityInternal_0 4 rfl rfl)
theorem dJ21_ensureCapacityInternal_5 : decode cJ21_ensureCapacityInternal 5 = .ok (.aload_n 0, 1) := dk_42 (dk_at dksJ21_ensureCapacityInternal_0 5 rfl rfl)
theorem dJ21_ensureCapacityInternal_6 : decode cJ21_ensureCapacityInternal 6 = .ok (.getfield 22, 3) := dk_180 0 22 (dk_at dksJ21_ensureCapacityInternal_0 6 rfl rfl)
theorem dJ21_ensureCapacityInternal_9 : decode cJ21_ensureCapacityInternal 9 = .ok (.ishr, 1) := dk_122 (dk_at dksJ21_ensureCapacityInternal_0 9 rfl rfl)
theorem dJ21_ensureCapacityInternal_10 : decode cJ21_ensureCapacityInternal 10 = .ok (.istore_n 2, 1) := dk_61 (dk_at dksJ21_ensureCapacityInternal_0 10 rfl rfl)
theorem dJ21_ensureCapacityInternal_11 : decode cJ21_ensureCapacityInternal 11 = .ok (.iload_n 1, 1) := dk_27 (dk_at dksJ21_ensureCapacityInternal_0 11 rfl rfl)
theorem dJ21_ensureCapacityInternal_12 : decode cJ21_ensureCapacityInternal 12 = .ok (.iload_n 2, 1) := dk_28 (dk_at dksJ21_ensureCapacityInternal_0 12 rfl rfl)
theorem dJ21_ensureCapacityInternal_13 : decode cJ21_ensureCapacityInternal 13 = .ok (.isub, 1) := dk_100 (dk_at dksJ21_ensureCapacityInternal_0 13 rfl rfl)
theorem dJ21_ensureCapacityInternal_14 : decode cJ21_ensureCapacityInternal 14 = .ok (.ifCond .le 24, 3) := dk_158 0 24 (dk_at dksJ21_ensureCapacityInternal_0 14 rfl rfl)
theorem dJ21_ensureCapacityInternal_17 : decode cJ21_ensureCapacityInternal 17 = .ok (.aload_n 0, 1) := dk_42 (dk_at dksJ21_ensureCapacityInternal_0 17 rfl rfl)
theorem dJ21_ensureCapacityInternal_18 : decode cJ21_ensureCapacityInternal 18 = .ok (.aload_n 0, 1) := dk_42 (dk_at dksJ21_ensureCapacityInternal_0 18 rfl rfl)
theorem dJ21_ensureCapacityInternal_19 : decode cJ21_ensureCapacityInternal 19 = .ok (.getfield 15, 3) := dk_180 0 15 (dk_at dksJ21_ensureCapacityInternal_0 19 rfl rfl)
theorem dJ21_ensureCapacityInternal_22 : decode cJ21_ensureCapacityInternal 22 = .ok (.aload_n 0, 1) := dk_42 (dk_at dksJ21_ensureCapacityInternal_0 22 rfl rfl)
theorem dJ21_ensureCapacityInternal_23 : decode cJ21_ensureCapacityInternal 23 = .ok (.iload_n 1, 1) := dk_27 (dk_at dksJ21_ensureCapacityInternal_0 23 rfl rfl)
theorem dJ21_ensureCapacityInternal_24 : decode cJ21_ensureCapacityInternal 24 = .ok (.invokevirtual 104, 3) := dk_182 0 104 (dk_at dksJ21_ensureCapacityInternal_1 0 rfl rfl)
theorem dJ21_ensureCapacityInternal_27 : decode cJ21_ensureCapacityInternal 27 = .ok (.aload_n 0, 1) := dk_42 (dk_at dksJ21_ensureCapacityInternal_1 3 rfl rfl)
theorem dJ21_ensureCapacityInternal_28 : decode cJ21_ensureCapacityInternal 28 = .ok (.getfield 22, 3) := dk_180 0 22 (dk_at dksJ21_ensureCapacityInternal_1 4 rfl rfl)
theorem dJ21_ensureCapacityInternal_31 : decode cJ21_ensureCapacityInternal 31 = .ok (.ishl, 1) := dk_120 (dk_at dksJ21_ensureCapacityInternal_1 7 rfl rfl)
theorem dJ21_ensureCapacityInternal_32 : decode cJ21_ensureCapacityInternal 32 = .ok (.invokestatic 108, 3) := dk_184 0 108 (dk_at dksJ21_ensureCapacityInternal_1 8 rfl rfl)
theorem dJ21_ensureCapacityInternal_35 : decode cJ21_ensureCapacityInternal 35 = .ok (.putfield 15, 3) := dk_181 0 15 (dk_at dksJ21_ensureCapacityInternal_1 11 rfl rfl)
theorem dJ21_ensureCapacityInternal_38 : decode cJ21_ensureCapacityInternal 38 = .ok (.return_, 1) := dk_177 (dk_at dksJ21_ensureCapacityInternal_1 14 rfl rfl)
abbrev cJ21_newCapacity : ByteArray := prog_25_method_10_code
def yJ21_newCapacity : MethodName := ⟨RJ21, "newCapacity", "(I)I"⟩
def dkwJ21_newCapacity_2 : List UInt8 := [183, 0, 124, 191, 21, 5, 42, 180, 0, 22, 122, 172]
abbrev dktJ21_newCapacity_2 : List UInt8 := dkwJ21_newCapacity_2 ++ []
def dkwJ21_newCapacity_1 : List UInt8 := [180, 0, 22, 120, 96, 184, 0, 114, 54, 5, 21, 5, 18, 39, 160, 0, 13, 187, 0, 120, 89, 18, 122]
abbrev dktJ21_newCapacity_1 : List UInt8 := dkwJ21_newCapacity_1 ++ dktJ21_newCapacity_2
def dkwJ21_newCapacity_0 : List UInt8 := [42, 180, 0, 15, 190, 61, 27, 42, 180, 0, 22, 120, 62, 29, 28, 100, 54, 4, 28, 21, 4, 28, 5, 42]
abbrev dktJ21_newCapacity_0 : List UInt8 := dkwJ21_newCapacity_0 ++ dktJ21_newCapacity_1
theorem dksJ21_newCapacity_0 : cJ21_newCapacity.data.toList.drop 0 = dktJ21_newCapacity_0 := by decide +kernel
theorem dksJ21_newCapacity_1 : cJ21_newCapacity.data.toList.drop 24 = dktJ21_newCapacity_1 := dk_seg dksJ21_newCapacity_0 24 rfl rfl
theorem dksJ21_newCapacity_2 : cJ21_newCapacity.data.toList.drop 47 = dktJ21_newCapacity_2 := dk_seg dksJ21_newCapacity_1 23 rfl rfl
theorem dJ21_newCapacity_0 : decode cJ21_newCapacity 0 = .ok (.aload_n 0, 1) := dk_42 (dk_at dksJ21_newCapacity_0 0 rfl rfl)
theorem dJ21_newCapacity_1 : decode cJ21_newCapacity 1 = .ok (.getfield 15, 3) := dk_180 0 15 (dk_at dksJ21_newCapacity_0 1 rfl rfl)
theorem dJ21_newCapacity_4 : decode cJ21_newCapacity 4 = .ok (.arraylength, 1) := dk_190 (dk_at dksJ21_newCapacity_0 4 rfl rfl)
theorem dJ21_newCapacity_5 : decode cJ21_newCapacity 5 = .ok (.istore_n 2, 1) := dk_61 (dk_at dksJ21_newCapacity_0 5 rfl rfl)
theorem dJ21_newCapacity_6 : decode cJ21_newCapacity 6 = .ok (.iload_n 1, 1) := dk_27 (dk_at dksJ21_newCapacity_0 6 rfl rfl)
theorem dJ21_newCapacity_7 : decode cJ21_newCapacity 7 = .ok (.aload_n 0, 1) := dk_42 (dk_at dksJ21_newCapacity_0 7 rfl rfl)
theorem dJ21_newCapacity_8 : decode cJ21_newCapacity 8 = .ok (.getfield 22, 3) := dk_180 0 22 (dk_at dksJ21_newCapacity_0 8 rfl rfl)
theorem dJ21_newCapacity_11 : decode cJ21_newCapacity 11 = .ok (.ishl, 1) := dk_120 (dk_at dksJ21_newCapacity_0 11 rfl rfl)
theorem dJ21_newCapacity_12 : decode cJ21_newCapacity 12 = .ok (.istore_n 3, 1) := dk_62 (dk_at dksJ21_newCapacity_0 12 rfl rfl)
theorem dJ21_newCapacity_13 : decode cJ21_newCapacity 13 = .ok (.iload_n 3, 1) := dk_29 (dk_at dksJ21_newCapacity_0 13 rfl rfl)
theorem dJ21_newCapacity_14 : decode cJ21_newCapacity 14 = .ok (.iload_n 2, 1) := dk_28 (dk_at dksJ21_newCapacity_0 14 rfl rfl)
theorem dJ21_newCapacity_15 : decode cJ21_newCapacity 15 = .ok (.isub, 1) := dk_100 (dk_at dksJ21_newCapacity_0 15 rfl rfl)
theorem dJ21_newCapacity_16 : decode cJ21_newCapacity 16 = .ok (.istore 4, 2) := dk_54 4 (dk_at dksJ21_newCapacity_0 16 rfl rfl)
theorem dJ21_newCapacity_18 : decode cJ21_newCapacity 18 = .ok (.iload_n 2, 1) := dk_28 (dk_at dksJ21_newCapacity_0 18 rfl rfl)
theorem dJ21_newCapacity_19 : decode cJ21_newCapacity 19 = .ok (.iload 4, 2) := dk_21 4 (dk_at dksJ21_newCapacity_0 19 rfl rfl)
theorem dJ21_newCapacity_21 : decode cJ21_newCapacity 21 = .ok (.iload_n 2, 1) := dk_28 (dk_at dksJ21_newCapacity_0 21 rfl rfl)
theorem dJ21_newCapacity_22 : decode cJ21_newCapacity 22 = .ok (.iconst 2, 1) := dk_5 (dk_at dksJ21_newCapacity_0 22 rfl rfl)
theorem dJ21_newCapacity_23 : decode cJ21_newCapacity 23 = .ok (.aload_n 0, 1) := dk_42 (dk_at dksJ21_newCapacity_0 23 rfl rfl)
theorem dJ21_newCapacity_24 : decode cJ21_newCapacity 24 = .ok (.getfield 22, 3) := dk_180 0 22 (dk_at dksJ21_newCapacity_1 0 rfl rfl)
theorem dJ21_newCapacity_27 : decode cJ21_newCapacity 27 = .ok (.ishl, 1) := dk_120 (dk_at dksJ21_newCapacity_1 3 rfl rfl)
theorem dJ21_newCapacity_28 : decode cJ21_newCapacity 28 = .ok (.iadd, 1) := dk_96 (dk_at dksJ21_newCapacity_1 4 rfl rfl)
theorem dJ21_newCapacity_29 : decode cJ21_newCapacity 29 = .ok (.invokestatic 114, 3) := dk_184 0 114 (dk_at dksJ21_newCapacity_1 5 rfl rfl)
theorem dJ21_newCapacity_32 : decode cJ21_newCapacity 32 = .ok (.istore 5, 2) := dk_54 5 (dk_at dksJ21_newCapacity_1 8 rfl rfl)
theorem dJ21_newCapacity_34 : decode cJ21_newCapacity 34 = .ok (.iload 5, 2) := dk_21 5 (dk_at dksJ21_newCapacity_1 10 rfl rfl)
theorem dJ21_newCapacity_36 : decode cJ21_newCapacity 36 = .ok (.ldc 39, 2) := dk_18 39 (dk_at dksJ21_newCapacity_1 12 rfl rfl)
theorem dJ21_newCapacity_38 : decode cJ21_newCapacity 38 = .ok (.if_icmp .ne 13, 3) := dk_160 0 13 (dk_at dksJ21_newCapacity_1 14 rfl rfl)
theorem dJ21_newCapacity_41 : decode cJ21_newCapacity 41 = .ok (.new 120, 3) := dk_187 0 120 (dk_at dksJ21_newCapacity_1 17 rfl rfl)
theorem dJ21_newCapacity_44 : decode cJ21_newCapacity 44 = .ok (.dup, 1) := dk_89 (dk_at dksJ21_newCapacity_1 20 rfl rfl)
theorem dJ21_newCapacity_45 : decode cJ21_newCapacity 45 = .ok (.ldc 122, 2) := dk_18 122 (dk_at dksJ21_newCapacity_1 21 rfl rfl)
theorem dJ21_newCapacity_47 : decode cJ21_newCapacity 47 = .ok (.invokespecial 124, 3) := dk_183 0 124 (dk_at dksJ21_newCapacity_2 0 rfl rfl)
theorem dJ21_newCapacity_50 : decode cJ21_newCapacity 50 = .ok (.athrow, 1) := dk_191 (dk_at dksJ21_newCapacity_2 3 rfl rfl)
theorem dJ21_newCapacity_51 : decode cJ21_newCapacity 51 = .ok (.iload 5, 2) := dk_21 5 (dk_at dksJ21_newCapacity_2 4 rfl rfl)
theorem dJ21_newCapacity_53 : decode cJ21_newCapacity 53 = .ok (.aload_n 0, 1) := dk_42 (dk_at dksJ21_newCapacity_2 6 rfl rfl)
theorem dJ21_newCapacity_54 : decode cJ21_newCapacity 54 = .ok (.getfield 22, 3) := dk_180 0 22 (dk_at dksJ21_newCapacity_2 7 rfl rfl)
theorem dJ21_newCapacity_57 : decode cJ21_newCapacity 57 = .ok (.ishr, 1) := dk_122 (dk_at dksJ21_newCapacity_2 10 rfl rfl)
theorem dJ21_newCapacity_58 : decode cJ21_newCapacity 58 = .ok (.ireturn, 1) := dk_172 (dk_at dksJ21_newCapacity_2 11 rfl rfl)
abbrev cJ21_isLatin1 : ByteArray := prog_25_method_68_code
def yJ21_isLatin1 : MethodName := ⟨RJ21, "isLatin1", "()Z"⟩
def dkwJ21_isLatin1_0 : List UInt8 := [178, 0, 18, 153, 0, 14, 42, 180, 0, 22, 154, 0, 7, 4, 167, 0, 4, 3, 172]
abbrev dktJ21_isLatin1_0 : List UInt8 := dkwJ21_isLatin1_0 ++ []
theorem dksJ21_isLatin1_0 : cJ21_isLatin1.data.toList.drop 0 = dktJ21_isLatin1_0 := by decide +kernel
theorem dJ21_isLatin1_0 : decode cJ21_isLatin1 0 = .ok (.getstatic 18, 3) := dk_178 0 18 (dk_at dksJ21_isLatin1_0 0 rfl rfl)
theorem dJ21_isLatin1_3 : decode cJ21_isLatin1 3 = .ok (.ifCond .eq 14, 3) := dk_153 0 14 (dk_at dksJ21_isLatin1_0 3 rfl rfl)
theorem dJ21_isLatin1_6 : decode cJ21_isLatin1 6 = .ok (.aload_n 0, 1) := dk_42 (dk_at dksJ21_isLatin1_0 6 rfl rfl)
theorem dJ21_isLatin1_7 : decode cJ21_isLatin1 7 = .ok (.getfield 22, 3) := dk_180 0 22 (dk_at dksJ21_isLatin1_0 7 rfl rfl)
theorem dJ21_isLatin1_10 : decode cJ21_isLatin1 10 = .ok (.ifCond .ne 7, 3) := dk_154 0 7 (dk_at dksJ21_isLatin1_0 10 rfl rfl)
theorem dJ21_isLatin1_13 : decode cJ21_isLatin1 13 = .ok (.iconst 1, 1) := dk_4 (dk_at dksJ21_isLatin1_0 13 rfl rfl)
theorem dJ21_isLatin1_14 : decode cJ21_isLatin1 14 = .ok (.goto 4, 3) := dk_167 0 4 (dk_at dksJ21_isLatin1_0 14 rfl rfl)
theorem dJ21_isLatin1_17 : decode cJ21_isLatin1 17 = .ok (.iconst 0, 1) := dk_3 (dk_at dksJ21_isLatin1_0 17 rfl rfl)
theorem dJ21_isLatin1_18 : decode cJ21_isLatin1 18 = .ok (.ireturn, 1) := dk_172 (dk_at dksJ21_isLatin1_0 18 rfl rfl)
abbrev cJ21_putStringAt : ByteArray := prog_25_method_73_code
def yJ21_putStringAt : MethodName := ⟨RJ21, "putStringAt", "(ILjava/lang/String;)V"⟩
def dkwJ21_putStringAt_0 : List UInt8 := [42, 44, 182, 1, 141, 44, 42, 180, 0, 15, 27, 42, 180, 0, 22, 182, 1, 143, 177]
abbrev dktJ21_putStringAt_0 : List UInt8 := dkwJ21_putStringAt_0 ++ []
theorem dksJ21_putStringAt_0 : cJ21_putStringAt.data.toList.drop 0 = dktJ21_putStringAt_0 := by decide +kernel
theorem dJ21_putStringAt_0 : decode cJ21_putStringAt 0 = .ok (.aload_n 0, 1) := dk_42 (dk_at dksJ21_putStringAt_0 0 rfl rfl)
theorem dJ21_putStringAt_1 : decode cJ21_putStringAt 1 = .ok (.aload_n 2, 1) := dk_44 (dk_at dksJ21_putStringAt_0 1 rfl rfl)
theorem dJ21_putStringAt_2 : decode cJ21_putStringAt 2 = .ok (.invokevirtual 397, 3) := dk_182 1 141 (dk_at dksJ21_putStringAt_0 2 rfl rfl)
theorem dJ21_putStringAt_5 : decode cJ21_putStringAt 5 = .ok (.aload_n 2, 1) := dk_44 (dk_at dksJ21_putStringAt_0 5 rfl rfl)
theorem dJ21_putStringAt_6 : decode cJ21_putStringAt 6 = .ok (.aload_n 0, 1) := dk_42 (dk_at dksJ21_putStringAt_0 6 rfl rfl)
theorem dJ21_putStringAt_7 : decode cJ21_putStringAt 7 = .ok (.getfield 15, 3) := dk_180 0 15 (dk_at dksJ21_putStringAt_0 7 rfl rfl)
theorem dJ21_putStringAt_10 : decode cJ21_putStringAt 10 = .ok (.iload_n 1, 1) := dk_27 (dk_at dksJ21_putStringAt_0 10 rfl rfl)
theorem dJ21_putStringAt_11 : decode cJ21_putStringAt 11 = .ok (.aload_n 0, 1) := dk_42 (dk_at dksJ21_putStringAt_0 11 rfl rfl)
theorem dJ21_putStringAt_12 : decode cJ21_putStringAt 12 = .ok (.getfield 22, 3) := dk_180 0 22 (dk_at dksJ21_putStringAt_0 12 rfl rfl)
theorem dJ21_putStringAt_15 : decode cJ21_putStringAt 15 = .ok (.invokevirtual 399, 3) := dk_182 1 143 (dk_at dksJ21_putStringAt_0 15 rfl rfl)
theorem dJ21_putStringAt_18 : decode cJ21_putStringAt 18 = .ok (.return_, 1) := dk_177 (dk_at dksJ21_putStringAt_0 18 rfl rfl)
abbrev cJ21_inflateIfNeededFor : ByteArray := prog_25_method_71_code
def yJ21_inflateIfNeededFor : MethodName := ⟨RJ21, "inflateIfNeededFor", "(Ljava/lang/String;)V"⟩
def dkwJ21_inflateIfNeededFor_0 : List UInt8 := [178, 0, 18, 153, 0, 18, 42, 180, 0, 22, 43, 182, 0, 40, 159, 0, 7, 42, 182, 0, 195, 177]
abbrev dktJ21_inflateIfNeededFor_0 : List UInt8 := dkwJ21_inflateIfNeededFor_0 ++ []
theorem dksJ21_inflateIfNeededFor_0 : cJ21_inflateIfNeededFor.data.toList.drop 0 = dktJ21_inflateIfNeededFor_0 := by decide +kernel
theorem dJ21_inflateIfNeededFor_0 : decode cJ21_inflateIfNeededFor 0 = .ok (.getstatic 18, 3) := dk_178 0 18 (dk_at dksJ21_inflateIfNeededFor_0 0 rfl rfl)
theorem dJ21_inflateIfNeededFor_3 : decode cJ21_inflateIfNeededFor 3 = .ok (.ifCond .eq 18, 3) := dk_153 0 18 (dk_at dksJ21_inflateIfNeededFor_0 3 rfl rfl)
theorem dJ21_inflateIfNeededFor_6 : decode cJ21_inflateIfNeededFor 6 = .ok (.aload_n 0, 1) := dk_42 (dk_at dksJ21_inflateIfNeededFor_0 6 rfl rfl)
theorem dJ21_inflateIfNeededFor_7 : decode cJ21_inflateIfNeededFor 7 = .ok (.getfield 22, 3) := dk_180 0 22 (dk_at dksJ21_inflateIfNeededFor_0 7 rfl rfl)
theorem dJ21_inflateIfNeededFor_10 : decode cJ21_inflateIfNeededFor 10 = .ok (.aload_n 1, 1) := dk_43 (dk_at dksJ21_inflateIfNeededFor_0 10 rfl rfl)
theorem dJ21_inflateIfNeededFor_11 : decode cJ21_inflateIfNeededFor 11 = .ok (.invokevirtual 40, 3) := dk_182 0 40 (dk_at dksJ21_inflateIfNeededFor_0 11 rfl rfl)
theorem dJ21_inflateIfNeededFor_14 : decode cJ21_inflateIfNeededFor 14 = .ok (.if_icmp .eq 7, 3) := dk_159 0 7 (dk_at dksJ21_inflateIfNeededFor_0 14 rfl rfl)
theorem dJ21_inflateIfNeededFor_17 : decode cJ21_inflateIfNeededFor 17 = .ok (.aload_n 0, 1) := dk_42 (dk_at dksJ21_inflateIfNeededFor_0 17 rfl rfl)
theorem dJ21_inflateIfNeededFor_18 : decode cJ21_inflateIfNeededFor 18 = .ok (.invokevirtual 195, 3) := dk_182 0 195 (dk_at dksJ21_inflateIfNeededFor_0 18 rfl rfl)
theorem dJ21_inflateIfNeededFor_21 : decode cJ21_inflateIfNeededFor 21 = .ok (.return_, 1) := dk_177 (dk_at dksJ21_inflateIfNeededFor_0 21 rfl rfl)
abbrev cJ21_inflate : ByteArray := prog_25_method_11_code
def yJ21_inflate : MethodName := ⟨RJ21, "inflate", "()V"⟩
def dkwJ21_inflate_1 : List UInt8 := [42, 180, 0, 79, 184, 0, 125, 42, 43, 181, 0, 15, 42, 4, 181, 0, 22, 177]
abbrev dktJ21_inflate_1 : List UInt8 := dkwJ21_inflate_1 ++ []
def dkwJ21_inflate_0 : List UInt8 := [42, 182, 0, 83, 154, 0, 4, 177, 42, 180, 0, 15, 190, 184, 0, 26, 76, 42, 180, 0, 15, 3, 43, 3]
abbrev dktJ21_inflate_0 : List UInt8 := dkwJ21_inflate_0 ++ dktJ21_inflate_1
theorem dksJ21_inflate_0 : cJ21_inflate.data.toList.drop 0 = dktJ21_inflate_0 := by decide +kernel
theorem dksJ21_inflate_1 : cJ21_inflate.data.toList.drop 24 = dktJ21_inflate_1 := dk_seg dksJ21_inflate_0 24 rfl rfl
theorem dJ21_inflate_0 : decode cJ21_inflate 0 = .ok (.aload_n 0, 1) := dk_42 (dk_at dksJ21_inflate_0 0 rfl rfl)
theorem dJ21_inflate_1 : decode cJ21_inflate 1 = .ok (.invokevirtual 83, 3) := dk_182 0 83 (dk_at dksJ21_inflate_0 1 rfl rfl)
theorem dJ21_inflate_4 : decode cJ21_inflate 4 = .ok (.ifCond .ne 4, 3) := dk_154 0 4 (dk_at dksJ21_inflate_0 4 rfl rfl)
theorem dJ21_inflate_7 : decode cJ21_inflate 7 = .ok (.return_, 1) := dk_177 (dk_at dksJ21_inflate_0 7 rfl rfl)
theorem dJ21_inflate_8 : decode cJ21_inflate 8 = .ok (.aload_n 0, 1) := dk_42 (dk_at dksJ21_inflate_0 8 rfl rfl)
theorem dJ21_inflate_9 : decode cJ21_inflate 9 = .ok (.getfield 15, 3) := dk_180 0 15 (dk_at dksJ21_inflate_0 9 rfl rfl)
theorem dJ21_inflate_12 : decode cJ21_inflate 12 = .ok (.arraylength, 1) := dk_190 (dk_at dksJ21_inflate_0 12 rfl rfl)
theorem dJ21_inflate_13 : decode cJ21_inflate 13 = .ok (.invokestatic 26, 3) := dk_184 0 26 (dk_at dksJ21_inflate_0 13 rfl rfl)
theorem dJ21_inflate_16 : decode cJ21_inflate 16 = .ok (.astore_n 1, 1) := dk_76 (dk_at dksJ21_inflate_0 16 rfl rfl)
theorem dJ21_inflate_17 : decode cJ21_inflate 17 = .ok (.aload_n 0, 1) := dk_42 (dk_at dksJ21_inflate_0 17 rfl rfl)
theorem dJ21_inflate_18 : decode cJ21_inflate 18 = .ok (.getfield 15, 3) := dk_180 0 15 (dk_at dksJ21_inflate_0 18 rfl rfl)
theorem dJ21_inflate_21 : decode cJ21_inflate 21 = .ok (.iconst 0, 1) := dk_3 (dk_at dksJ21_inflate_0 21 rfl rfl)
theorem dJ21_inflate_22 : decode cJ21_inflate 22 = .ok (.aload_n 1, 1) := dk_43 (dk_at dksJ21_inflate_0 22 rfl rfl)
theorem dJ21_inflate_23 : decode cJ21_inflate 23 = .ok (.iconst 0, 1) := dk_3 (dk_at dksJ21_inflate_0 23 rfl rfl)
theorem dJ21_inflate_24 : decode cJ21_inflate 24 = .ok (.aload_n 0, 1) := dk_42 (dk_at dksJ21_inflate_1 0 rfl rfl)
theorem dJ21_inflate_25 : decode cJ21_inflate 25 = .ok (.getfield 79, 3) := dk_180 0 79 (dk_at dksJ21_inflate_1 1 rfl rfl)
theorem dJ21_inflate_28 : decode cJ21_inflate 28 = .ok (.invokestatic 125, 3) := dk_184 0 125 (dk_at dksJ21_inflate_1 4 rfl rfl)
theorem dJ21_inflate_31 : decode cJ21_inflate 31 = .ok (.aload_n 0, 1) := dk_42 (dk_at dksJ21_inflate_1 7 rfl rfl)
theorem dJ21_inflate_32 : decode cJ21_inflate 32 = .ok (.aload_n 1, 1) := dk_43 (dk_at dksJ21_inflate_1 8 rfl rfl)
theorem dJ21_inflate_33 : decode cJ21_inflate 33 = .ok (.putfield 15, 3) := dk_181 0 15 (dk_at dksJ21_inflate_1 9 rfl rfl)
theorem dJ21_inflate_36 : decode cJ21_inflate 36 = .ok (.aload_n 0, 1) := dk_42 (dk_at dksJ21_inflate_1 12 rfl rfl)
theorem dJ21_inflate_37 : decode cJ21_inflate 37 = .ok (.iconst 1, 1) := dk_4 (dk_at dksJ21_inflate_1 13 rfl rfl)
theorem dJ21_inflate_38 : decode cJ21_inflate 38 = .ok (.putfield 22, 3) := dk_181 0 22 (dk_at dksJ21_inflate_1 14 rfl rfl)
theorem dJ21_inflate_41 : decode cJ21_inflate 41 = .ok (.return_, 1) := dk_177 (dk_at dksJ21_inflate_1 17 rfl rfl)
abbrev cJ21_append_2 : ByteArray := prog_25_method_32_code
def yJ21_append_2 : MethodName := ⟨RJ21, "append", "(I)Ljava/lang/AbstractStringBuilder;"⟩
def dkwJ21_append_2_2 : List UInt8 := [42, 29, 181, 0, 79, 42, 176]
abbrev dktJ21_append_2_2 : List UInt8 := dkwJ21_append_2_2 ++ []
def dkwJ21_append_2_1 : List UInt8 := [27, 29, 42, 180, 0, 15, 184, 0, 248, 87, 167, 0, 14, 27, 28, 29, 42, 180, 0, 15, 184, 0, 251, 87]
abbrev dktJ21_append_2_1 : List UInt8 := dkwJ21_append_2_1 ++ dktJ21_append_2_2
def dkwJ21_append_2_0 : List UInt8 := [42, 180, 0, 79, 61, 28, 27, 184, 0, 245, 96, 62, 42, 29, 182, 0, 100, 42, 182, 0, 83, 153, 0, 16]
abbrev dktJ21_append_2_0 : List UInt8 := dkwJ21_append_2_0 ++ dktJ21_append_2_1
theorem dksJ21_append_2_0 : cJ21_append_2.data.toList.drop 0 = dktJ21_append_2_0 := by decide +kernel
theorem dksJ21_append_2_1 : cJ21_append_2.data.toList.drop 24 = dktJ21_append_2_1 := dk_seg dksJ21_append_2_0 24 rfl rfl
theorem dksJ21_append_2_2 : cJ21_append_2.data.toList.drop 48 = dktJ21_append_2_2 := dk_seg dksJ21_append_2_1 24 rfl rfl
theorem dJ21_append_2_0 : decode cJ21_append_2 0 = .ok (.aload_n 0, 1) := dk_42 (dk_at dksJ21_append_2_0 0 rfl rfl)
theorem dJ21_append_2_1 : decode cJ21_append_2 1 = .ok (.getfield 79, 3) := dk_180 0 79 (dk_at dksJ21_append_2_0 1 rfl rfl)
theorem dJ21_append_2_4 : decode cJ21_append_2 4 = .ok (.istore_n 2, 1) := dk_61 (dk_at dksJ21_append_2_0 4 rfl rfl)
theorem dJ21_append_2_5 : decode cJ21_append_2 5 = .ok (.iload_n 2, 1) := dk_28 (dk_at dksJ21_append_2_0 5 rfl rfl)
theorem dJ21_append_2_6 : decode cJ21_append_2 6 = .ok (.iload_n 1, 1) := dk_27 (dk_at dksJ21_append_2_0 6 rfl rfl)
theorem dJ21_append_2_7 : decode cJ21_append_2 7 = .ok (.invokestatic 245, 3) := dk_184 0 245 (dk_at dksJ21_append_2_0 7 rfl rfl)
theorem dJ21_append_2_10 : decode cJ21_append_2 10 = .ok (.iadd, 1) := dk_96 (dk_at dksJ21_append_2_0 10 rfl rfl)
theorem dJ21_append_2_11 : decode cJ21_append_2 11 = .ok (.istore_n 3, 1) := dk_62 (dk_at dksJ21_append_2_0 11 rfl rfl)
theorem dJ21_append_2_12 : decode cJ21_append_2 12 = .ok (.aload_n 0, 1) := dk_42 (dk_at dksJ21_append_2_0 12 rfl rfl)
theorem dJ21_append_2_13 : decode cJ21_append_2 13 = .ok (.iload_n 3, 1) := dk_29 (dk_at dksJ21_append_2_0 13 rfl rfl)
theorem dJ21_append_2_14 : decode cJ21_append_2 14 = .ok (.invokevirtual 100, 3) := dk_182 0 100 (dk_at dksJ21_append_2_0 14 rfl rfl)
theorem dJ21_append_2_17 : decode cJ21_append_2 17 = .ok (.aload_n 0, 1) := dk_42 (dk_at dksJ21_append_2_0 17 rfl rfl)
theorem dJ21_append_2_18 : decode cJ21_append_2 18 = .ok (.invokevirtual 83, 3) := dk_182 0 83 (dk_at dksJ21_append_2_0 18 rfl rfl)
theorem dJ21_append_2_21 : decode cJ21_append_2 21 = .ok (.ifCond .eq 16, 3) := dk_153 0 16 (dk_at dksJ21_append_2_0 21 rfl rfl)
theorem dJ21_append_2_24 : decode cJ21_append_2 24 = .ok (.iload_n 1, 1) := dk_27 (dk_at dksJ21_append_2_1 0 rfl rfl)
theorem dJ21_append_2_25 : decode cJ21_append_2 25 = .ok (.iload_n 3, 1) := dk_29 (dk_at dksJ21_append_2_1 1 rfl rfl)
theorem dJ21_append_2_26 : decode cJ21_append_2 26 = .ok (.aload_n 0, 1) := dk_42 (dk_at dksJ21_append_2_1 2 rfl rfl)
theorem dJ21_append_2_27 : decode cJ21_append_2 27 = .ok (.getfield 15, 3) := dk_180 0 15 (dk_at dksJ21_append_2_1 3 rfl rfl)
theorem dJ21_append_2_30 : decode cJ21_append_2 30 = .ok (.invokestatic 248, 3) := dk_184 0 248 (dk_at dksJ21_append_2_1 6 rfl rfl)
theorem dJ21_append_2_33 : decode cJ21_append_2 33 = .ok (.pop, 1) := dk_87 (dk_at dksJ21_append_2_1 9 rfl rfl)
theorem dJ21_append_2_34 : decode cJ21_append_2 34 = .ok (.goto 14, 3) := dk_167 0 14 (dk_at dksJ21_append_2_1 10 rfl rfl)
theorem dJ21_append_2_37 : decode cJ21_append_2 37 = .ok (.iload_n 1, 1) := dk_27 (dk_at dksJ21_append_2_1 13 rfl rfl)
theorem dJ21_append_2_38 : decode cJ21_append_2 38 = .ok (.iload_n 2, 1) := dk_28 (dk_at dksJ21_append_2_1 14 rfl rfl)
theorem dJ21_append_2_39 : decode cJ21_append_2 39 = .ok (.iload_n 3, 1) := dk_29 (dk_at dksJ21_append_2_1 15 rfl rfl)
theorem dJ21_append_2_40 : decode cJ21_append_2 40 = .ok (.aload_n 0, 1) := dk_42 (dk_at dksJ21_append_2_1 16 rfl rfl)
theorem dJ21_append_2_41 : decode cJ21_append_2 41 = .ok (.getfield 15, 3) := dk_180 0 15 (dk_at dksJ21_append_2_1 17 rfl rfl)
theorem dJ21_append_2_44 : decode cJ21_append_2 44 = .ok (.invokestatic 251, 3) := dk_184 0 251 (dk_at dksJ21_append_2_1 20 rfl rfl)
theorem dJ21_append_2_47 : decode cJ21_append_2 47 = .ok (.pop, 1) := dk_87 (dk_at dksJ21_append_2_1 23 rfl rfl)
theorem dJ21_append_2_48 : decode cJ21_append_2 48 = .ok (.aload_n 0, 1) := dk_42 (dk_at dksJ21_append_2_2 0 rfl rfl)
theorem dJ21_append_2_49 : decode cJ21_append_2 49 = .ok (.iload_n 3, 1) := dk_29 (dk_at dksJ21_append_2_2 1 rfl rfl)
theorem dJ21_append_2_50 : decode cJ21_append_2 50 = .ok (.putfield 79, 3) := dk_181 0 79 (dk_at dksJ21_append_2_2 2 rfl rfl)
theorem dJ21_append_2_53 : decode cJ21_append_2 53 = .ok (.aload_n 0, 1) := dk_42 (dk_at dksJ21_append_2_2 5 rfl rfl)
theorem dJ21_append_2_54 : decode cJ21_append_2 54 = .ok (.areturn, 1) := dk_176 (dk_at dksJ21_append_2_2 6 rfl rfl)
abbrev cJ21_getValue : ByteArray := prog_25_method_64_code
def yJ21_getValue : MethodName := ⟨RJ21, "getValue", "()[B"⟩
theorem dJ21_getValue_0 : decode cJ21_getValue 0 = .ok (.aload_n 0, 1) := by decide +kernel
theorem dJ21_getValue_1 : decode cJ21_getValue 1 = .ok (.getfield 15, 3) := by decide +kernel
theorem dJ21_getValue_4 : decode cJ21_getValue 4 = .ok (.areturn, 1) := by decide +kernel
abbrev cJ21_length : ByteArray := prog_25_method_6_code
def yJ21_length : MethodName := ⟨RJ21, "length", "()I"⟩
theorem dJ21_length_0 : decode cJ21_length 0 = .ok (.aload_n 0, 1) := by decide +kernel
theorem dJ21_length_1 : decode cJ21_length 1 = .ok (.getfield 79, 3) := by decide +kernel
theorem dJ21_length_4 : decode cJ21_length 4 = .ok (.ireturn, 1) := by decide +kernel
abbrev cJ21_compareTo : ByteArray := prog_25_method_5_code
def yJ21_compareTo : MethodName := ⟨RJ21, "compareTo", "(Ljava/lang/AbstractStringBuilder;)I"⟩
def dkwJ21_compareTo_4 : List UInt8 := [184, 0, 97, 172]
abbrev dktJ21_compareTo_4 : List UInt8 := dkwJ21_compareTo_4 ++ []
def dkwJ21_compareTo_3 : List UInt8 := [182, 0, 83, 153, 0, 15, 44, 45, 21, 4, 21, 5, 184, 0, 94, 167, 0, 12, 44, 45, 21, 4, 21, 5]
abbrev dktJ21_compareTo_3 : List UInt8 := dkwJ21_compareTo_3 ++ dktJ21_compareTo_4
def dkwJ21_compareTo_2 : List UInt8 := [45, 21, 4, 21, 5, 184, 0, 87, 167, 0, 12, 44, 45, 21, 4, 21, 5, 184, 0, 93, 172, 42]
abbrev dktJ21_compareTo_2 : List UInt8 := dkwJ21_compareTo_2 ++ dktJ21_compareTo_3
def dkwJ21_compareTo_1 : List UInt8 := [180, 0, 79, 54, 5, 42, 180, 0, 22, 43, 180, 0, 22, 160, 0, 32, 42, 182, 0, 83, 153, 0, 15, 44]
abbrev dktJ21_compareTo_1 : List UInt8 := dkwJ21_compareTo_1 ++ dktJ21_compareTo_2
def dkwJ21_compareTo_0 : List UInt8 := [42, 43, 166, 0, 5, 3, 172, 42, 180, 0, 15, 77, 43, 180, 0, 15, 78, 42, 180, 0, 79, 54, 4, 43]
abbrev dktJ21_compareTo_0 : List UInt8 := dkwJ21_compareTo_0 ++ dktJ21_compareTo_1
theorem dksJ21_compareTo_0 : cJ21_compareTo.data.toList.drop 0 = dktJ21_compareTo_0 := by decide +kernel
theorem dksJ21_compareTo_1 : cJ21_compareTo.data.toList.drop 24 = dktJ21_compareTo_1 := dk_seg dksJ21_compareTo_0 24 rfl rfl
theorem dksJ21_compareTo_2 : cJ21_compareTo.data.toList.drop 48 = dktJ21_compareTo_2 := dk_seg dksJ21_compareTo_1 24 rfl rfl
theorem dksJ21_compareTo_3 : cJ21_compareTo.data.toList.drop 70 = dktJ21_compareTo_3 := dk_seg dksJ21_compareTo_2 22 rfl rfl
theorem dksJ21_compareTo_4 : cJ21_compareTo.data.toList.drop 94 = dktJ21_compareTo_4 := dk_seg dksJ21_compareTo_3 24 rfl rfl
theorem dJ21_compareTo_0 : decode cJ21_compareTo 0 = .ok (.aload_n 0, 1) := dk_42 (dk_at dksJ21_compareTo_0 0 rfl rfl)
theorem dJ21_compareTo_1 : decode cJ21_compareTo 1 = .ok (.aload_n 1, 1) := dk_43 (dk_at dksJ21_compareTo_0 1 rfl rfl)
theorem dJ21_compareTo_2 : decode cJ21_compareTo 2 = .ok (.if_acmp .ne 5, 3) := dk_166 0 5 (dk_at dksJ21_compareTo_0 2 rfl rfl)
theorem dJ21_compareTo_5 : decode cJ21_compareTo 5 = .ok (.iconst 0, 1) := dk_3 (dk_at dksJ21_compareTo_0 5 rfl rfl)
theorem dJ21_compareTo_6 : decode cJ21_compareTo 6 = .ok (.ireturn, 1) := dk_172 (dk_at dksJ21_compareTo_0 6 rfl rfl)
theorem dJ21_compareTo_7 : decode cJ21_compareTo 7 = .ok (.aload_n 0, 1) := dk_42 (dk_at dksJ21_compareTo_0 7 rfl rfl)
theorem dJ21_compareTo_8 : decode cJ21_compareTo 8 = .ok (.getfield 15, 3) := dk_180 0 15 (dk_at dksJ21_compareTo_0 8 rfl rfl)
theorem dJ21_compareTo_11 : decode cJ21_compareTo 11 = .ok (.astore_n 2, 1) := dk_77 (dk_at dksJ21_compareTo_0 11 rfl rfl)
theorem dJ21_compareTo_12 : decode cJ21_compareTo 12 = .ok (.aload_n 1, 1) := dk_43 (dk_at dksJ21_compareTo_0 12 rfl rfl)
theorem dJ21_compareTo_13 : decode cJ21_compareTo 13 = .ok (.getfield 15, 3) := dk_180 0 15 (dk_at dksJ21_compareTo_0 13 rfl rfl)
theorem dJ21_compareTo_16 : decode cJ21_compareTo 16 = .ok (.astore_n 3, 1) := dk_78 (dk_at dksJ21_compareTo_0 16 rfl rfl)
theorem dJ21_compareTo_17 : decode cJ21_compareTo 17 = .ok (.aload_n 0, 1) := dk_42 (dk_at dksJ21_compareTo_0 17 rfl rfl)
theorem dJ21_compareTo_18 : decode cJ21_compareTo 18 = .ok (.getfield 79, 3) := dk_180 0 79 (dk_at dksJ21_compareTo_0 18 rfl rfl)
theorem dJ21_compareTo_21 : decode cJ21_compareTo 21 = .ok (.istore 4, 2) := dk_54 4 (dk_at dksJ21_compareTo_0 21 rfl rfl)
theorem dJ21_compareTo_23 : decode cJ21_compareTo 23 = .ok (.aload_n 1, 1) := dk_43 (dk_at dksJ21_compareTo_0 23 rfl rfl)
theorem dJ21_compareTo_24 : decode cJ21_compareTo 24 = .ok (.getfield 79, 3) := dk_180 0 79 (dk_at dksJ21_compareTo_1 0 rfl rfl)
theorem dJ21_compareTo_27 : decode cJ21_compareTo 27 = .ok (.istore 5, 2) := dk_54 5 (dk_at dksJ21_compareTo_1 3 rfl rfl)
theorem dJ21_compareTo_29 : decode cJ21_compareTo 29 = .ok (.aload_n 0, 1) := dk_42 (dk_at dksJ21_compareTo_1 5 rfl rfl)
theorem dJ21_compareTo_30 : decode cJ21_compareTo 30 = .ok (.getfield 22, 3) := dk_180 0 22 (dk_at dksJ21_compareTo_1 6 rfl rfl)
theorem dJ21_compareTo_33 : decode cJ21_compareTo 33 = .ok (.aload_n 1, 1) := dk_43 (dk_at dksJ21_compareTo_1 9 rfl rfl)
theorem dJ21_compareTo_34 : decode cJ21_compareTo 34 = .ok (.getfield 22, 3) := dk_180 0 22 (dk_at dksJ21_compareTo_1 10 rfl rfl)
theorem dJ21_compareTo_37 : decode cJ21_compareTo 37 = .ok (.if_icmp .ne 32, 3) := dk_160 0 32 (dk_at dksJ21_compareTo_1 13 rfl rfl)
theorem dJ21_compareTo_40 : decode cJ21_compareTo 40 = .ok (.aload_n 0, 1) := dk_42 (dk_at dksJ21_compareTo_1 16 rfl rfl)
theorem dJ21_compareTo_41 : decode cJ21_compareTo 41 = .ok (.invokevirtual 83, 3) := dk_182 0 83 (dk_at dksJ21_compareTo_1 17 rfl rfl)
theorem dJ21_compareTo_44 : decode cJ21_compareTo 44 = .ok (.ifCond .eq 15, 3) := dk_153 0 15 (dk_at dksJ21_compareTo_1 20 rfl rfl)
theorem dJ21_compareTo_47 : decode cJ21_compareTo 47 = .ok (.aload_n 2, 1) := dk_44 (dk_at dksJ21_compareTo_1 23 rfl rfl)
theorem dJ21_compareTo_48 : decode cJ21_compareTo 48 = .ok (.aload_n 3, 1) := dk_45 (dk_at dksJ21_compareTo_2 0 rfl rfl)
theorem dJ21_compareTo_49 : decode cJ21_compareTo 49 = .ok (.iload 4, 2) := dk_21 4 (dk_at dksJ21_compareTo_2 1 rfl rfl)
theorem dJ21_compareTo_51 : decode cJ21_compareTo 51 = .ok (.iload 5, 2) := dk_21 5 (dk_at dksJ21_compareTo_2 3 rfl rfl)
theorem dJ21_compareTo_53 : decode cJ21_compareTo 53 = .ok (.invokestatic 87, 3) := dk_184 0 87 (dk_at dksJ21_compareTo_2 5 rfl rfl)
theorem dJ21_compareTo_56 : decode cJ21_compareTo 56 = .ok (.goto 12, 3) := dk_167 0 12 (dk_at dksJ21_compareTo_2 8 rfl rfl)
theorem dJ21_compareTo_59 : decode cJ21_compareTo 59 = .ok (.aload_n 2, 1) := dk_44 (dk_at dksJ21_compareTo_2 11 rfl rfl)
theorem dJ21_compareTo_60 : decode cJ21_compareTo 60 = .ok (.aload_n 3, 1) := dk_45 (dk_at dksJ21_compareTo_2 12 rfl rfl)
theorem dJ21_compareTo_61 : decode cJ21_compareTo 61 = .ok (.iload 4, 2) := dk_21 4 (dk_at dksJ21_compareTo_2 13 rfl rfl)
theorem dJ21_compareTo_63 : decode cJ21_compareTo 63 = .ok (.iload 5, 2) := dk_21 5 (dk_at dksJ21_compareTo_2 15 rfl rfl)
theorem dJ21_compareTo_65 : decode cJ21_compareTo 65 = .ok (.invokestatic 93, 3) := dk_184 0 93 (dk_at dksJ21_compareTo_2 17 rfl rfl)
theorem dJ21_compareTo_68 : decode cJ21_compareTo 68 = .ok (.ireturn, 1) := dk_172 (dk_at dksJ21_compareTo_2 20 rfl rfl)
theorem dJ21_compareTo_69 : decode cJ21_compareTo 69 = .ok (.aload_n 0, 1) := dk_42 (dk_at dksJ21_compareTo_2 21 rfl rfl)
theorem dJ21_compareTo_70 : decode cJ21_compareTo 70 = .ok (.invokevirtual 83, 3) := dk_182 0 83 (dk_at dksJ21_compareTo_3 0 rfl rfl)
theorem dJ21_compareTo_73 : decode cJ21_compareTo 73 = .ok (.ifCond .eq 15, 3) := dk_153 0 15 (dk_at dksJ21_compareTo_3 3 rfl rfl)
theorem dJ21_compareTo_76 : decode cJ21_compareTo 76 = .ok (.aload_n 2, 1) := dk_44 (dk_at dksJ21_compareTo_3 6 rfl rfl)
theorem dJ21_compareTo_77 : decode cJ21_compareTo 77 = .ok (.aload_n 3, 1) := dk_45 (dk_at dksJ21_compareTo_3 7 rfl rfl)
theorem dJ21_compareTo_78 : decode cJ21_compareTo 78 = .ok (.iload 4, 2) := dk_21 4 (dk_at dksJ21_compareTo_3 8 rfl rfl)
theorem dJ21_compareTo_80 : decode cJ21_compareTo 80 = .ok (.iload 5, 2) := dk_21 5 (dk_at dksJ21_compareTo_3 10 rfl rfl)
theorem dJ21_compareTo_82 : decode cJ21_compareTo 82 = .ok (.invokestatic 94, 3) := dk_184 0 94 (dk_at dksJ21_compareTo_3 12 rfl rfl)
theorem dJ21_compareTo_85 : decode cJ21_compareTo 85 = .ok (.goto 12, 3) := dk_167 0 12 (dk_at dksJ21_compareTo_3 15 rfl rfl)
theorem dJ21_compareTo_88 : decode cJ21_compareTo 88 = .ok (.aload_n 2, 1) := dk_44 (dk_at dksJ21_compareTo_3 18 rfl rfl)
theorem dJ21_compareTo_89 : decode cJ21_compareTo 89 = .ok (.aload_n 3, 1) := dk_45 (dk_at dksJ21_compareTo_3 19 rfl rfl)
theorem dJ21_compareTo_90 : decode cJ21_compareTo 90 = .ok (.iload 4, 2) := dk_21 4 (dk_at dksJ21_compareTo_3 20 rfl rfl)
theorem dJ21_compareTo_92 : decode cJ21_compareTo 92 = .ok (.iload 5, 2) := dk_21 5 (dk_at dksJ21_compareTo_3 22 rfl rfl)
theorem dJ21_compareTo_94 : decode cJ21_compareTo 94 = .ok (.invokestatic 97, 3) := dk_184 0 97 (dk_at dksJ21_compareTo_4 0 rfl rfl)
theorem dJ21_compareTo_97 : decode cJ21_compareTo 97 = .ok (.ireturn, 1) := dk_172 (dk_at dksJ21_compareTo_4 3 rfl rfl)
theorem q106 : (Jvm.Cond.initialized "java/lang/AbstractStringBuilder") ∈ lw_all := lw_g (lw_at lw_m1 30 rfl) rfl
theorem q391 : (Jvm.Cond.instanceMethod ({ cls := "java/lang/AbstractStringBuilder", name := "<init>", desc := "(I)V" } : Jvm.MethodName)) ∈ lw_all := lw_g (lw_at lw_m2 75 rfl) rfl
theorem q392 : (Jvm.Cond.code ({ cls := "java/lang/AbstractStringBuilder", name := "<init>", desc := "(I)V" } : Jvm.MethodName) prog_25_method_2_code (2 : Nat) (Option.none : Option Jvm.ClassFile.FieldType)) ∈ lw_all := lw_g (lw_at lw_m2 76 rfl) rfl
theorem q393 : (Jvm.Cond.methodLink "java/lang/AbstractStringBuilder" (3 : Nat) ({ cls := "java/lang/Object", name := "<init>", desc := "()V" } : Jvm.MethodName)) ∈ lw_all := lw_g (lw_at lw_m2 77 rfl) rfl
theorem q394 : (Jvm.Cond.fieldLink "java/lang/AbstractStringBuilder" (18 : Nat) "java/lang/String" "COMPACT_STRINGS" "Z") ∈ lw_all := lw_g (lw_at lw_m2 78 rfl) rfl
theorem q396 : (Jvm.Cond.methodLink "java/lang/AbstractStringBuilder" (26 : Nat) ({ cls := "java/lang/StringUTF16", name := "newBytesFor", desc := "(I)[B" } : Jvm.MethodName)) ∈ lw_all := lw_g (lw_at lw_m2 80 rfl) rfl
theorem q403 : (Jvm.Cond.fieldLink "java/lang/AbstractStringBuilder" (15 : Nat) "java/lang/AbstractStringBuilder" "value" "[B") ∈ lw_all := lw_g (lw_at lw_m2 87 rfl) rfl
theorem q404 : (Jvm.Cond.fieldLink "java/lang/AbstractStringBuilder" (22 : Nat) "java/lang/AbstractStringBuilder" "coder" "B") ∈ lw_all := lw_g (lw_at lw_m2 88 rfl) rfl
theorem q406 : (Jvm.Cond.fieldLink "java/lang/AbstractStringBuilder" (79 : Nat) "java/lang/AbstractStringBuilder" "count" "I") ∈ lw_all := lw_g (lw_at lw_m2 90 rfl) rfl
theorem q408 : (Jvm.Cond.soleField "java/lang/AbstractStringBuilder" "value") ∈ lw_all := lw_g (lw_at lw_m2 92 rfl) rfl
theorem q410 : (Jvm.Cond.soleField "java/lang/AbstractStringBuilder" "coder") ∈ lw_all := lw_g (lw_at lw_m2 94 rfl) rfl
theorem q412 : (Jvm.Cond.soleField "java/lang/AbstractStringBuilder" "maybeLatin1") ∈ lw_all := lw_g (lw_at lw_m2 96 rfl) rfl
theorem q414 : (Jvm.Cond.soleField "java/lang/AbstractStringBuilder" "count") ∈ lw_all := lw_g (lw_at lw_m2 98 rfl) rfl
theorem q423 : (Jvm.Cond.instanceMethod ({ cls := "java/lang/AbstractStringBuilder", name := "append", desc := "(Ljava/lang/String;)Ljava/lang/AbstractStringBuilder;" } : Jvm.MethodName)) ∈ lw_all := lw_g (lw_at lw_m2 107 rfl) rfl
theorem q424 : (Jvm.Cond.code ({ cls := "java/lang/AbstractStringBuilder", name := "append", desc := "(Ljava/lang/String;)Ljava/lang/AbstractStringBuilder;" } : Jvm.MethodName) prog_25_method_22_code (3 : Nat) (Option.some (Jvm.ClassFile.FieldType.object "java/lang/AbstractStringBuilder"))) ∈ lw_all := lw_g (lw_at lw_m2 108 rfl) rfl
theorem q425 : (Jvm.Cond.methodLink "java/lang/AbstractStringBuilder" (204 : Nat) ({ cls := "java/lang/AbstractStringBuilder", name := "appendNull", desc := "()Ljava/lang/AbstractStringBuilder;" } : Jvm.MethodName)) ∈ lw_all := lw_g (lw_at lw_m2 109 rfl) rfl
theorem q426 : (Jvm.Cond.privateMethod ({ cls := "java/lang/AbstractStringBuilder", name := "appendNull", desc := "()Ljava/lang/AbstractStringBuilder;" } : Jvm.MethodName)) ∈ lw_tbl := lw_at lw_m2 110 rfl
theorem q427 : (Jvm.Cond.instanceMethod ({ cls := "java/lang/AbstractStringBuilder", name := "appendNull", desc := "()Ljava/lang/AbstractStringBuilder;" } : Jvm.MethodName)) ∈ lw_all := lw_g (lw_at lw_m2 111 rfl) rfl
theorem q428 : (Jvm.Cond.code ({ cls := "java/lang/AbstractStringBuilder", name := "appendNull", desc := "()Ljava/lang/AbstractStringBuilder;" } : Jvm.MethodName) prog_25_method_26_code (3 : Nat) (Option.some (Jvm.ClassFile.FieldType.object "java/lang/AbstractStringBuilder"))) ∈ lw_all := lw_g (lw_at lw_m2 112 rfl) rfl
theorem q429 : (Jvm.Cond.methodLink "java/lang/AbstractStringBuilder" (100 : Nat) ({ cls := "java/lang/AbstractStringBuilder", name := "ensureCapacityInternal", desc := "(I)V" } : Jvm.MethodName)) ∈ lw_all := lw_g (lw_at lw_m2 113 rfl) rfl
theorem q430 : (Jvm.Cond.privateMethod ({ cls := "java/lang/AbstractStringBuilder", name := "ensureCapacityInternal", desc := "(I)V" } : Jvm.MethodName)) ∈ lw_tbl := lw_at lw_m2 114 rfl
theorem q431 : (Jvm.Cond.instanceMethod ({ cls := "java/lang/AbstractStringBuilder", name := "ensureCapacityInternal", desc := "(I)V" } : Jvm.MethodName)) ∈ lw_all := lw_g (lw_at lw_m2 115 rfl) rfl
theorem q432 : (Jvm.Cond.code ({ cls := "java/lang/AbstractStringBuilder", name := "ensureCapacityInternal", desc := "(I)V" } : Jvm.MethodName) prog_25_method_9_code (3 : Nat) (Option.none : Option Jvm.ClassFile.FieldType)) ∈ lw_all := lw_g (lw_at lw_m2 116 rfl) rfl
theorem q433 : (Jvm.Cond.methodLink "java/lang/AbstractStringBuilder" (104 : Nat) ({ cls := "java/lang/AbstractStringBuilder", name := "newCapacity", desc := "(I)I" } : Jvm.MethodName)) ∈ lw_all := lw_g (lw_at lw_m2 117 rfl) rfl
theorem q434 : (Jvm.Cond.privateMethod ({ cls := "java/lang/AbstractStringBuilder", name := "newCapacity", desc := "(I)I" } : Jvm.MethodName)) ∈ lw_tbl := lw_at lw_m2 118 rfl
theorem q435 : (Jvm.Cond.instanceMethod ({ cls := "java/lang/AbstractStringBuilder", name := "newCapacity", desc := "(I)I" } : Jvm.MethodName)) ∈ lw_all := lw_g (lw_at lw_m2 119 rfl) rfl
theorem q436 : (Jvm.Cond.code ({ cls := "java/lang/AbstractStringBuilder", name := "newCapacity", desc := "(I)I" } : Jvm.MethodName) prog_25_method_10_code (6 : Nat) (Option.some Jvm.ClassFile.FieldType.int)) ∈ lw_all := lw_g (lw_at lw_m2 120 rfl) rfl
theorem q437 : (Jvm.Cond.methodLink "java/lang/AbstractStringBuilder" (114 : Nat) ({ cls := "jdk/internal/util/ArraysSupport", name := "newLength", desc := "(III)I" } : Jvm.MethodName)) ∈ lw_all := lw_g (lw_at lw_m2 121 rfl) rfl
theorem q447 : (Jvm.Cond.constant "java/lang/AbstractStringBuilder" (39 : Nat) (2147483647 : Int32)) ∈ lw_all := lw_g (lw_at lw_m2 131 rfl) rfl
theorem q448 : (Jvm.Cond.methodLink "java/lang/AbstractStringBuilder" (108 : Nat) ({ cls := "java/util/Arrays", name := "copyOf", desc := "([BI)[B" } : Jvm.MethodName)) ∈ lw_all := lw_g (lw_at lw_m2 132 rfl) rfl
theorem q464 : (Jvm.Cond.methodLink "java/lang/AbstractStringBuilder" (83 : Nat) ({ cls := "java/lang/AbstractStringBuilder", name := "isLatin1", desc := "()Z" } : Jvm.MethodName)) ∈ lw_all := lw_g (lw_at lw_m2 148 rfl) rfl
theorem q465 : (Jvm.Cond.instanceMethod ({ cls := "java/lang/AbstractStringBuilder", name := "isLatin1", desc := "()Z" } : Jvm.MethodName)) ∈ lw_all := lw_g (lw_at lw_m2 149 rfl) rfl
theorem q466 : (Jvm.Cond.sameMethod "java/lang/AbstractStringBuilder" "java/lang/AbstractStringBuilder" "isLatin1" "()Z") ∈ lw_all := lw_g (lw_at lw_m2 150 rfl) rfl
theorem q468 : (Jvm.Cond.code ({ cls := "java/lang/AbstractStringBuilder", name := "isLatin1", desc := "()Z" } : Jvm.MethodName) prog_25_method_68_code (1 : Nat) (Option.some Jvm.ClassFile.FieldType.boolean)) ∈ lw_all := lw_g (lw_at lw_m2 152 rfl) rfl
theorem q469 : (Jvm.Cond.methodLink "java/lang/AbstractStringBuilder" (226 : Nat) ({ cls := "java/lang/StringUTF16", name := "putCharsAt", desc := "([BICCCC)I" } : Jvm.MethodName)) ∈ lw_all := lw_g (lw_at lw_m2 153 rfl) rfl
theorem q495 : (Jvm.Cond.methodLink "java/lang/AbstractStringBuilder" (32 : Nat) ({ cls := "java/lang/String", name := "length", desc := "()I" } : Jvm.MethodName)) ∈ lw_all := lw_g (lw_at lw_m2 179 rfl) rfl
theorem q504 : (Jvm.Cond.methodLink "java/lang/AbstractStringBuilder" (208 : Nat) ({ cls := "java/lang/AbstractStringBuilder", name := "putStringAt", desc := "(ILjava/lang/String;)V" } : Jvm.MethodName)) ∈ lw_all := lw_g (lw_at lw_m2 188 rfl) rfl
theorem q505 : (Jvm.Cond.privateMethod ({ cls := "java/lang/AbstractStringBuilder", name := "putStringAt", desc := "(ILjava/lang/String;)V" } : Jvm.MethodName)) ∈ lw_tbl := lw_at lw_m2 189 rfl
theorem q506 : (Jvm.Cond.instanceMethod ({ cls := "java/lang/AbstractStringBuilder", name := "putStringAt", desc := "(ILjava/lang/String;)V" } : Jvm.MethodName)) ∈ lw_all := lw_g (lw_at lw_m2 190 rfl) rfl
theorem q507 : (Jvm.Cond.code ({ cls := "java/lang/AbstractStringBuilder", name := "putStringAt", desc := "(ILjava/lang/String;)V" } : Jvm.MethodName) prog_25_method_73_code (3 : Nat) (Option.none : Option Jvm.ClassFile.FieldType)) ∈ lw_all := lw_g (lw_at lw_m2 191 rfl) rfl
theorem q508 : (Jvm.Cond.methodLink "java/lang/AbstractStringBuilder" (397 : Nat) ({ cls := "java/lang/AbstractStringBuilder", name := "inflateIfNeededFor", desc := "(Ljava/lang/String;)V" } : Jvm.MethodName)) ∈ lw_all := lw_g (lw_at lw_m2 192 rfl) rfl
theorem q509 : (Jvm.Cond.privateMethod ({ cls := "java/lang/AbstractStringBuilder", name := "inflateIfNeededFor", desc := "(Ljava/lang/String;)V" } : Jvm.MethodName)) ∈ lw_tbl := lw_at lw_m2 193 rfl
theorem q510 : (Jvm.Cond.instanceMethod ({ cls := "java/lang/AbstractStringBuilder", name := "inflateIfNeededFor", desc := "(Ljava/lang/String;)V" } : Jvm.MethodName)) ∈ lw_all := lw_g (lw_at lw_m2 194 rfl) rfl
theorem q511 : (Jvm.Cond.code ({ cls := "java/lang/AbstractStringBuilder", name := "inflateIfNeededFor", desc := "(Ljava/lang/String;)V" } : Jvm.MethodName) prog_25_method_71_code (2 : Nat) (Option.none : Option Jvm.ClassFile.FieldType)) ∈ lw_all := lw_g (lw_at lw_m2 195 rfl) rfl
theorem q512 : (Jvm.Cond.methodLink "java/lang/AbstractStringBuilder" (40 : Nat) ({ cls := "java/lang/String", name := "coder", desc := "()B" } : Jvm.MethodName)) ∈ lw_all := lw_g (lw_at lw_m2 196 rfl) rfl
theorem q513 : (Jvm.Cond.methodLink "java/lang/AbstractStringBuilder" (195 : Nat) ({ cls := "java/lang/AbstractStringBuilder", name := "inflate", desc := "()V" } : Jvm.MethodName)) ∈ lw_all := lw_g (lw_at lw_m2 197 rfl) rfl
theorem q514 : (Jvm.Cond.privateMethod ({ cls := "java/lang/AbstractStringBuilder", name := "inflate", desc := "()V" } : Jvm.MethodName)) ∈ lw_tbl := lw_at lw_m2 198 rfl
theorem q515 : (Jvm.Cond.instanceMethod ({ cls := "java/lang/AbstractStringBuilder", name := "inflate", desc := "()V" } : Jvm.MethodName)) ∈ lw_all := lw_g (lw_at lw_m2 199 rfl) rfl
theorem q516 : (Jvm.Cond.code ({ cls := "java/lang/AbstractStringBuilder", name := "inflate", desc := "()V" } : Jvm.MethodName) prog_25_method_11_code (2 : Nat) (Option.none : Option Jvm.ClassFile.FieldType)) ∈ lw_all := lw_g (lw_at lw_m2 200 rfl) rfl
theorem q517 : (Jvm.Cond.methodLink "java/lang/AbstractStringBuilder" (125 : Nat) ({ cls := "java/lang/StringLatin1", name := "inflate", desc := "([BI[BII)V" } : Jvm.MethodName)) ∈ lw_all := lw_g (lw_at lw_m2 201 rfl) rfl
theorem q532 : (Jvm.Cond.methodLink "java/lang/AbstractStringBuilder" (399 : Nat) ({ cls := "java/lang/String", name := "getBytes", desc := "([BIB)V" } : Jvm.MethodName)) ∈ lw_all := lw_g (lw_at lw_m2 216 rfl) rfl
theorem q543 : (Jvm.Cond.instanceMethod ({ cls := "java/lang/AbstractStringBuilder", name := "append", desc := "(I)Ljava/lang/AbstractStringBuilder;" } : Jvm.MethodName)) ∈ lw_all := lw_g (lw_at lw_m2 227 rfl) rfl
theorem q544 : (Jvm.Cond.code ({ cls := "java/lang/AbstractStringBuilder", name := "append", desc := "(I)Ljava/lang/AbstractStringBuilder;" } : Jvm.MethodName) prog_25_method_32_code (4 : Nat) (Option.some (Jvm.ClassFile.FieldType.object "java/lang/AbstractStringBuilder"))) ∈ lw_all := lw_g (lw_at lw_m2 228 rfl) rfl
theorem q545 : (Jvm.Cond.methodLink "java/lang/AbstractStringBuilder" (245 : Nat) ({ cls := "java/lang/Integer", name := "stringSize", desc := "(I)I" } : Jvm.MethodName)) ∈ lw_all := lw_g (lw_at lw_m2 229 rfl) rfl
theorem q548 : (Jvm.Cond.methodLink "java/lang/AbstractStringBuilder" (248 : Nat) ({ cls := "java/lang/Integer", name := "getChars", desc := "(II[B)I" } : Jvm.MethodName)) ∈ lw_all := lw_g (lw_at lw_m2 232 rfl) rfl
theorem q555 : (Jvm.Cond.methodLink "java/lang/AbstractStringBuilder" (251 : Nat) ({ cls := "java/lang/StringUTF16", name := "getChars", desc := "(III[B)I" } : Jvm.MethodName)) ∈ lw_all := lw_g (lw_at lw_m2 239 rfl) rfl
theorem q577 : (Jvm.Cond.instanceMethod ({ cls := "java/lang/AbstractStringBuilder", name := "getValue", desc := "()[B" } : Jvm.MethodName)) ∈ lw_all := lw_g (lw_at lw_m3 21 rfl) rfl
theorem q578 : (Jvm.Cond.sameMethod "java/lang/AbstractStringBuilder" "java/lang/AbstractStringBuilder" "getValue" "()[B") ∈ lw_all := lw_g (lw_at lw_m3 22 rfl) rfl
theorem q580 : (Jvm.Cond.code ({ cls := "java/lang/AbstractStringBuilder", name := "getValue", desc := "()[B" } : Jvm.MethodName) prog_25_method_64_code (1 : Nat) (Option.some (Jvm.ClassFile.FieldType.array Jvm.ClassFile.FieldType.byte))) ∈ lw_all := lw_g (lw_at lw_m3 24 rfl) rfl
theorem q582 : (Jvm.Cond.instanceMethod ({ cls := "java/lang/AbstractStringBuilder", name := "length", desc := "()I" } : Jvm.MethodName)) ∈ lw_all := lw_g (lw_at lw_m3 26 rfl) rfl
theorem q583 : (Jvm.Cond.sameMethod "java/lang/AbstractStringBuilder" "java/lang/AbstractStringBuilder" "length" "()I") ∈ lw_all := lw_g (lw_at lw_m3 27 rfl) rfl
theorem q588 : (Jvm.Cond.code ({ cls := "java/lang/AbstractStringBuilder", name := "length", desc := "()I" } : Jvm.MethodName) prog_25_method_6_code (1 : Nat) (Option.some Jvm.ClassFile.FieldType.int)) ∈ lw_all := lw_g (lw_at lw_m3 32 rfl) rfl
theorem q1600 : (Jvm.Cond.instanceMethod ({ cls := "java/lang/AbstractStringBuilder", name := "compareTo", desc := "(Ljava/lang/AbstractStringBuilder;)I" } : Jvm.MethodName)) ∈ lw_all := lw_g (lw_at lw_m7 84 rfl) rfl
theorem q1601 : (Jvm.Cond.code ({ cls := "java/lang/AbstractStringBuilder", name := "compareTo", desc := "(Ljava/lang/AbstractStringBuilder;)I" } : Jvm.MethodName) prog_25_method_5_code (6 : Nat) (Option.some Jvm.ClassFile.FieldType.int)) ∈ lw_all := lw_g (lw_at lw_m7 85 rfl) rfl
theorem q1602 : (Jvm.Cond.methodLink "java/lang/AbstractStringBuilder" (87 : Nat) ({ cls := "java/lang/StringLatin1", name := "compareTo", desc := "([B[BII)I" } : Jvm.MethodName)) ∈ lw_all := lw_g (lw_at lw_m7 86 rfl) rfl
theorem q1603 : (Jvm.Cond.methodLink "java/lang/AbstractStringBuilder" (93 : Nat) ({ cls := "java/lang/StringUTF16", name := "compareTo", desc := "([B[BII)I" } : Jvm.MethodName)) ∈ lw_all := lw_g (lw_at lw_m7 87 rfl) rfl
theorem q1612 : (Jvm.Cond.methodLink "java/lang/AbstractStringBuilder" (94 : Nat) ({ cls := "java/lang/StringLatin1", name := "compareToUTF16", desc := "([B[BII)I" } : Jvm.MethodName)) ∈ lw_all := lw_g (lw_at lw_m7 96 rfl) rfl
theorem q1616 : (Jvm.Cond.methodLink "java/lang/AbstractStringBuilder" (97 : Nat) ({ cls := "java/lang/StringUTF16", name := "compareToLatin1", desc := "([B[BII)I" } : Jvm.MethodName)) ∈ lw_all := lw_g (lw_at lw_m7 100 rfl) rfl
theorem q3655 : (Jvm.Cond.sameMethod "java/lang/AbstractStringBuilder" "java/lang/AbstractStringBuilder" "append" "(Ljava/lang/String;)Ljava/lang/AbstractStringBuilder;") ∈ lw_all := lw_g (lw_at lw_m15 219 rfl) rfl
theorem q3656 : (Jvm.Cond.sameMethod "java/lang/AbstractStringBuilder" "java/lang/AbstractStringBuilder" "appendNull" "()Ljava/lang/AbstractStringBuilder;") ∈ lw_all := lw_g (lw_at lw_m15 220 rfl) rfl
theorem q3657 : (Jvm.Cond.sameMethod "java/lang/AbstractStringBuilder" "java/lang/AbstractStringBuilder" "ensureCapacityInternal" "(I)V") ∈ lw_all := lw_g (lw_at lw_m15 221 rfl) rfl
theorem q3658 : (Jvm.Cond.sameMethod "java/lang/AbstractStringBuilder" "java/lang/AbstractStringBuilder" "newCapacity" "(I)I") ∈ lw_all := lw_g (lw_at lw_m15 222 rfl) rfl
theorem q3659 : (Jvm.Cond.sameMethod "java/lang/AbstractStringBuilder" "java/lang/AbstractStringBuilder" "putStringAt" "(ILjava/lang/String;)V") ∈ lw_all := lw_g (lw_at lw_m15 223 rfl) rfl
theorem q3660 : (Jvm.Cond.sameMethod "java/lang/AbstractStringBuilder" "java/lang/AbstractStringBuilder" "inflateIfNeededFor" "(Ljava/lang/String;)V") ∈ lw_all := lw_g (lw_at lw_m15 224 rfl) rfl
theorem q3661 : (Jvm.Cond.sameMethod "java/lang/AbstractStringBuilder" "java/lang/AbstractStringBuilder" "inflate" "()V") ∈ lw_all := lw_g (lw_at lw_m15 225 rfl) rfl
theorem q3662 : (Jvm.Cond.sameMethod "java/lang/AbstractStringBuilder" "java/lang/AbstractStringBuilder" "append" "(I)Ljava/lang/AbstractStringBuilder;") ∈ lw_all := lw_g (lw_at lw_m15 226 rfl) rfl
theorem q3663 : (Jvm.Cond.sameMethod "java/lang/AbstractStringBuilder" "java/lang/AbstractStringBuilder" "compareTo" "(Ljava/lang/AbstractStringBuilder;)I") ∈ lw_all := lw_g (lw_at lw_m15 227 rfl) rfl
/-! java/lang/StringBuilder -/
def RJ22 : String := "java/lang/StringBuilder"
def TJ22 : u_T := fun k => match k with
  | 0 => ("java/lang/AbstractStringBuilder", "value", "[B", false)
  | 1 => ("java/lang/AbstractStringBuilder", "coder", "B", false)
  | 2 => ("java/lang/AbstractStringBuilder", "maybeLatin1", "Z", false)
  | _ => ("java/lang/AbstractStringBuilder", "count", "I", false)
def tyJ22 : Nat → FieldType := fun k => match k with
  | 0 => .array .byte
  | 1 => .byte
  | 2 => .boolean
  | _ => .int
abbrev wsJ220 : List Cond := u_ws RJ22 TJ22 4
theorem nmJ22 : ∀ a, a < 4 → ∀ b, b < 4 → a ≠ b → (TJ22 a).2.1 ≠ (TJ22 b).2.1 := by decide +kernel
theorem tyJ22_ok : ∀ k, k < 4 → parseFieldDescriptor (TJ22 k).2.2.1 = some (tyJ22 k) := by decide +kernel
abbrev cJ22_init : ByteArray := prog_45_method_1_code
def yJ22_init : MethodName := ⟨RJ22, "<init>", "()V"⟩
def dkwJ22_init_0 : List UInt8 := [42, 16, 16, 183, 0, 1, 177]
abbrev dktJ22_init_0 : List UInt8 := dkwJ22_init_0 ++ []
theorem dksJ22_init_0 : cJ22_init.data.toList.drop 0 = dktJ22_init_0 := by decide +kernel
theorem dJ22_init_0 : decode cJ22_init 0 = .ok (.aload_n 0, 1) := dk_42 (dk_at dksJ22_init_0 0 rfl rfl)
theorem dJ22_init_1 : decode cJ22_init 1 = .ok (.bipush 16, 2) := dk_16 16 (dk_at dksJ22_init_0 1 rfl rfl)
theorem dJ22_init_3 : decode cJ22_init 3 = .ok (.invokespecial 1, 3) := dk_183 0 1 (dk_at dksJ22_init_0 3 rfl rfl)
theorem dJ22_init_6 : decode cJ22_init 6 = .ok (.return_, 1) := dk_177 (dk_at dksJ22_init_0 6 rfl rfl)
abbrev cJ22_append : ByteArray := prog_45_method_7_code
def yJ22_append : MethodName := ⟨RJ22, "append", "(Ljava/lang/String;)Ljava/lang/StringBuilder;"⟩
def dkwJ22_append_0 : List UInt8 := [42, 43, 183, 0, 29, 87, 42, 176]
abbrev dktJ22_append_0 : List UInt8 := dkwJ22_append_0 ++ []
theorem dksJ22_append_0 : cJ22_append.data.toList.drop 0 = dktJ22_append_0 := by decide +kernel
theorem dJ22_append_0 : decode cJ22_append 0 = .ok (.aload_n 0, 1) := dk_42 (dk_at dksJ22_append_0 0 rfl rfl)
theorem dJ22_append_1 : decode cJ22_append 1 = .ok (.aload_n 1, 1) := dk_43 (dk_at dksJ22_append_0 1 rfl rfl)
theorem dJ22_append_2 : decode cJ22_append 2 = .ok (.invokespecial 29, 3) := dk_183 0 29 (dk_at dksJ22_append_0 2 rfl rfl)
theorem dJ22_append_5 : decode cJ22_append 5 = .ok (.pop, 1) := dk_87 (dk_at dksJ22_append_0 5 rfl rfl)
theorem dJ22_append_6 : decode cJ22_append 6 = .ok (.aload_n 0, 1) := dk_42 (dk_at dksJ22_append_0 6 rfl rfl)
theorem dJ22_append_7 : decode cJ22_append 7 = .ok (.areturn, 1) := dk_176 (dk_at dksJ22_append_0 7 rfl rfl)
abbrev cJ22_append_2 : ByteArray := prog_45_method_15_code
def yJ22_append_2 : MethodName := ⟨RJ22, "append", "(I)Ljava/lang/StringBuilder;"⟩
def dkwJ22_append_2_0 : List UInt8 := [42, 27, 183, 0, 53, 87, 42, 176]
abbrev dktJ22_append_2_0 : List UInt8 := dkwJ22_append_2_0 ++ []
theorem dksJ22_append_2_0 : cJ22_append_2.data.toList.drop 0 = dktJ22_append_2_0 := by decide +kernel
theorem dJ22_append_2_0 : decode cJ22_append_2 0 = .ok (.aload_n 0, 1) := dk_42 (dk_at dksJ22_append_2_0 0 rfl rfl)
theorem dJ22_append_2_1 : decode cJ22_append_2 1 = .ok (.iload_n 1, 1) := dk_27 (dk_at dksJ22_append_2_0 1 rfl rfl)
theorem dJ22_append_2_2 : decode cJ22_append_2 2 = .ok (.invokespecial 53, 3) := dk_183 0 53 (dk_at dksJ22_append_2_0 2 rfl rfl)
theorem dJ22_append_2_5 : decode cJ22_append_2 5 = .ok (.pop, 1) := dk_87 (dk_at dksJ22_append_2_0 5 rfl rfl)
theorem dJ22_append_2_6 : decode cJ22_append_2 6 = .ok (.aload_n 0, 1) := dk_42 (dk_at dksJ22_append_2_0 6 rfl rfl)
theorem dJ22_append_2_7 : decode cJ22_append_2 7 = .ok (.areturn, 1) := dk_176 (dk_at dksJ22_append_2_0 7 rfl rfl)
abbrev cJ22_toString : ByteArray := prog_45_method_42_code
def yJ22_toString : MethodName := ⟨RJ22, "toString", "()Ljava/lang/String;"⟩
def dkwJ22_toString_0 : List UInt8 := [187, 0, 18, 89, 42, 183, 0, 137, 176]
abbrev dktJ22_toString_0 : List UInt8 := dkwJ22_toString_0 ++ []
theorem dksJ22_toString_0 : cJ22_toString.data.toList.drop 0 = dktJ22_toString_0 := by decide +kernel
theorem dJ22_toString_0 : decode cJ22_toString 0 = .ok (.new 18, 3) := dk_187 0 18 (dk_at dksJ22_toString_0 0 rfl rfl)
theorem dJ22_toString_3 : decode cJ22_toString 3 = .ok (.dup, 1) := dk_89 (dk_at dksJ22_toString_0 3 rfl rfl)
theorem dJ22_toString_4 : decode cJ22_toString 4 = .ok (.aload_n 0, 1) := dk_42 (dk_at dksJ22_toString_0 4 rfl rfl)
theorem dJ22_toString_5 : decode cJ22_toString 5 = .ok (.invokespecial 137, 3) := dk_183 0 137 (dk_at dksJ22_toString_0 5 rfl rfl)
theorem dJ22_toString_8 : decode cJ22_toString 8 = .ok (.areturn, 1) := dk_176 (dk_at dksJ22_toString_0 8 rfl rfl)
abbrev cJ22_length : ByteArray := prog_45_method_93_code
def yJ22_length : MethodName := ⟨RJ22, "length", "()I"⟩
theorem dJ22_length_0 : decode cJ22_length 0 = .ok (.aload_n 0, 1) := by decide +kernel
theorem dJ22_length_1 : decode cJ22_length 1 = .ok (.invokespecial 343, 3) := by decide +kernel
theorem dJ22_length_4 : decode cJ22_length 4 = .ok (.ireturn, 1) := by decide +kernel
abbrev cJ22_compareTo : ByteArray := prog_45_method_97_code
def yJ22_compareTo : MethodName := ⟨RJ22, "compareTo", "(Ljava/lang/Object;)I"⟩
def dkwJ22_compareTo_0 : List UInt8 := [42, 43, 192, 0, 24, 182, 1, 90, 172]
abbrev dktJ22_compareTo_0 : List UInt8 := dkwJ22_compareTo_0 ++ []
theorem dksJ22_compareTo_0 : cJ22_compareTo.data.toList.drop 0 = dktJ22_compareTo_0 := by decide +kernel
theorem dJ22_compareTo_0 : decode cJ22_compareTo 0 = .ok (.aload_n 0, 1) := dk_42 (dk_at dksJ22_compareTo_0 0 rfl rfl)
theorem dJ22_compareTo_1 : decode cJ22_compareTo 1 = .ok (.aload_n 1, 1) := dk_43 (dk_at dksJ22_compareTo_0 1 rfl rfl)
theorem dJ22_compareTo_2 : decode cJ22_compareTo 2 = .ok (.checkcast 24, 3) := dk_192 0 24 (dk_at dksJ22_compareTo_0 2 rfl rfl)
theorem dJ22_compareTo_5 : decode cJ22_compareTo 5 = .ok (.invokevirtual 346, 3) := dk_182 1 90 (dk_at dksJ22_compareTo_0 5 rfl rfl)
theorem dJ22_compareTo_8 : decode cJ22_compareTo 8 = .ok (.ireturn, 1) := dk_172 (dk_at dksJ22_compareTo_0 8 rfl rfl)
abbrev cJ22_compareTo_2 : ByteArray := prog_45_method_5_code
def yJ22_compareTo_2 : MethodName := ⟨RJ22, "compareTo", "(Ljava/lang/StringBuilder;)I"⟩
def dkwJ22_compareTo_2_0 : List UInt8 := [42, 43, 183, 0, 13, 172]
abbrev dktJ22_compareTo_2_0 : List UInt8 := dkwJ22_compareTo_2_0 ++ []
theorem dksJ22_compareTo_2_0 : cJ22_compareTo_2.data.toList.drop 0 = dktJ22_compareTo_2_0 := by decide +kernel
theorem dJ22_compareTo_2_0 : decode cJ22_compareTo_2 0 = .ok (.aload_n 0, 1) := dk_42 (dk_at dksJ22_compareTo_2_0 0 rfl rfl)
theorem dJ22_compareTo_2_1 : decode cJ22_compareTo_2 1 = .ok (.aload_n 1, 1) := dk_43 (dk_at dksJ22_compareTo_2_0 1 rfl rfl)
theorem dJ22_compareTo_2_2 : decode cJ22_compareTo_2 2 = .ok (.invokespecial 13, 3) := dk_183 0 13 (dk_at dksJ22_compareTo_2_0 2 rfl rfl)
theorem dJ22_compareTo_2_5 : decode cJ22_compareTo_2 5 = .ok (.ireturn, 1) := dk_172 (dk_at dksJ22_compareTo_2_0 5 rfl rfl)
theorem q107 : (Jvm.Cond.initialized "java/lang/StringBuilder") ∈ lw_all := lw_g (lw_at lw_m1 31 rfl) rfl
theorem q386 : (Jvm.Cond.instantiable "java/lang/StringBuilder" (4 : Nat)) ∈ lw_all := lw_g (lw_at lw_m2 70 rfl) rfl
theorem q388 : (Jvm.Cond.instanceMethod ({ cls := "java/lang/StringBuilder", name := "<init>", desc := "()V" } : Jvm.MethodName)) ∈ lw_all := lw_g (lw_at lw_m2 72 rfl) rfl
theorem q389 : (Jvm.Cond.code ({ cls := "java/lang/StringBuilder", name := "<init>", desc := "()V" } : Jvm.MethodName) prog_45_method_1_code (1 : Nat) (Option.none : Option Jvm.ClassFile.FieldType)) ∈ lw_all := lw_g (lw_at lw_m2 73 rfl) rfl
theorem q390 : (Jvm.Cond.methodLink "java/lang/StringBuilder" (1 : Nat) ({ cls := "java/lang/AbstractStringBuilder", name := "<init>", desc := "(I)V" } : Jvm.MethodName)) ∈ lw_all := lw_g (lw_at lw_m2 74 rfl) rfl
theorem q407 : (Jvm.Cond.lays "java/lang/StringBuilder" "java/lang/AbstractStringBuilder" "value" "[B") ∈ lw_all := lw_g (lw_at lw_m2 91 rfl) rfl
theorem q409 : (Jvm.Cond.lays "java/lang/StringBuilder" "java/lang/AbstractStringBuilder" "coder" "B") ∈ lw_all := lw_g (lw_at lw_m2 93 rfl) rfl
theorem q411 : (Jvm.Cond.lays "java/lang/StringBuilder" "java/lang/AbstractStringBuilder" "maybeLatin1" "Z") ∈ lw_all := lw_g (lw_at lw_m2 95 rfl) rfl
theorem q413 : (Jvm.Cond.lays "java/lang/StringBuilder" "java/lang/AbstractStringBuilder" "count" "I") ∈ lw_all := lw_g (lw_at lw_m2 97 rfl) rfl
theorem q415 : (Jvm.Cond.superclass "java/lang/StringBuilder" "java/lang/AbstractStringBuilder") ∈ lw_all := lw_g (lw_at lw_m2 99 rfl) rfl
theorem q419 : (Jvm.Cond.instanceMethod ({ cls := "java/lang/StringBuilder", name := "append", desc := "(Ljava/lang/String;)Ljava/lang/StringBuilder;" } : Jvm.MethodName)) ∈ lw_all := lw_g (lw_at lw_m2 103 rfl) rfl
theorem q420 : (Jvm.Cond.selects "java/lang/StringBuilder" ({ cls := "java/lang/StringBuilder", name := "append", desc := "(Ljava/lang/String;)Ljava/lang/StringBuilder;" } : Jvm.MethodName) ({ cls := "java/lang/StringBuilder", name := "append", desc := "(Ljava/lang/String;)Ljava/lang/StringBuilder;" } : Jvm.MethodName)) ∈ lw_all := lw_g (lw_at lw_m2 104 rfl) rfl
theorem q421 : (Jvm.Cond.code ({ cls := "java/lang/StringBuilder", name := "append", desc := "(Ljava/lang/String;)Ljava/lang/StringBuilder;" } : Jvm.MethodName) prog_45_method_7_code (2 : Nat) (Option.some (Jvm.ClassFile.FieldType.object "java/lang/StringBuilder"))) ∈ lw_all := lw_g (lw_at lw_m2 105 rfl) rfl
theorem q422 : (Jvm.Cond.methodLink "java/lang/StringBuilder" (29 : Nat) ({ cls := "java/lang/AbstractStringBuilder", name := "append", desc := "(Ljava/lang/String;)Ljava/lang/AbstractStringBuilder;" } : Jvm.MethodName)) ∈ lw_all := lw_g (lw_at lw_m2 106 rfl) rfl
theorem q467 : (Jvm.Cond.selects "java/lang/StringBuilder" ({ cls := "java/lang/AbstractStringBuilder", name := "isLatin1", desc := "()Z" } : Jvm.MethodName) ({ cls := "java/lang/AbstractStringBuilder", name := "isLatin1", desc := "()Z" } : Jvm.MethodName)) ∈ lw_all := lw_g (lw_at lw_m2 151 rfl) rfl
theorem q539 : (Jvm.Cond.instanceMethod ({ cls := "java/lang/StringBuilder", name := "append", desc := "(I)Ljava/lang/StringBuilder;" } : Jvm.MethodName)) ∈ lw_all := lw_g (lw_at lw_m2 223 rfl) rfl
theorem q540 : (Jvm.Cond.selects "java/lang/StringBuilder" ({ cls := "java/lang/StringBuilder", name := "append", desc := "(I)Ljava/lang/StringBuilder;" } : Jvm.MethodName) ({ cls := "java/lang/StringBuilder", name := "append", desc := "(I)Ljava/lang/StringBuilder;" } : Jvm.MethodName)) ∈ lw_all := lw_g (lw_at lw_m2 224 rfl) rfl
theorem q541 : (Jvm.Cond.code ({ cls := "java/lang/StringBuilder", name := "append", desc := "(I)Ljava/lang/StringBuilder;" } : Jvm.MethodName) prog_45_method_15_code (2 : Nat) (Option.some (Jvm.ClassFile.FieldType.object "java/lang/StringBuilder"))) ∈ lw_all := lw_g (lw_at lw_m2 225 rfl) rfl
theorem q542 : (Jvm.Cond.methodLink "java/lang/StringBuilder" (53 : Nat) ({ cls := "java/lang/AbstractStringBuilder", name := "append", desc := "(I)Ljava/lang/AbstractStringBuilder;" } : Jvm.MethodName)) ∈ lw_all := lw_g (lw_at lw_m2 226 rfl) rfl
theorem q564 : (Jvm.Cond.instanceMethod ({ cls := "java/lang/StringBuilder", name := "toString", desc := "()Ljava/lang/String;" } : Jvm.MethodName)) ∈ lw_all := lw_g (lw_at lw_m3 8 rfl) rfl
theorem q565 : (Jvm.Cond.selects "java/lang/StringBuilder" ({ cls := "java/lang/StringBuilder", name := "toString", desc := "()Ljava/lang/String;" } : Jvm.MethodName) ({ cls := "java/lang/StringBuilder", name := "toString", desc := "()Ljava/lang/String;" } : Jvm.MethodName)) ∈ lw_all := lw_g (lw_at lw_m3 9 rfl) rfl
theorem q566 : (Jvm.Cond.code ({ cls := "java/lang/StringBuilder", name := "toString", desc := "()Ljava/lang/String;" } : Jvm.MethodName) prog_45_method_42_code (1 : Nat) (Option.some (Jvm.ClassFile.FieldType.object "java/lang/String"))) ∈ lw_all := lw_g (lw_at lw_m3 10 rfl) rfl
theorem q567 : (Jvm.Cond.classLink "java/lang/StringBuilder" (18 : Nat) "java/lang/String") ∈ lw_all := lw_g (lw_at lw_m3 11 rfl) rfl
theorem q569 : (Jvm.Cond.methodLink "java/lang/StringBuilder" (137 : Nat) ({ cls := "java/lang/String", name := "<init>", desc := "(Ljava/lang/StringBuilder;)V" } : Jvm.MethodName)) ∈ lw_all := lw_g (lw_at lw_m3 13 rfl) rfl
theorem q579 : (Jvm.Cond.selects "java/lang/StringBuilder" ({ cls := "java/lang/AbstractStringBuilder", name := "getValue", desc := "()[B" } : Jvm.MethodName) ({ cls := "java/lang/AbstractStringBuilder", name := "getValue", desc := "()[B" } : Jvm.MethodName)) ∈ lw_all := lw_g (lw_at lw_m3 23 rfl) rfl
theorem q584 : (Jvm.Cond.selects "java/lang/StringBuilder" ({ cls := "java/lang/AbstractStringBuilder", name := "length", desc := "()I" } : Jvm.MethodName) ({ cls := "java/lang/StringBuilder", name := "length", desc := "()I" } : Jvm.MethodName)) ∈ lw_all := lw_g (lw_at lw_m3 28 rfl) rfl
theorem q585 : (Jvm.Cond.instanceMethod ({ cls := "java/lang/StringBuilder", name := "length", desc := "()I" } : Jvm.MethodName)) ∈ lw_all := lw_g (lw_at lw_m3 29 rfl) rfl
theorem q586 : (Jvm.Cond.code ({ cls := "java/lang/StringBuilder", name := "length", desc := "()I" } : Jvm.MethodName) prog_45_method_93_code (1 : Nat) (Option.some Jvm.ClassFile.FieldType.int)) ∈ lw_all := lw_g (lw_at lw_m3 30 rfl) rfl
theorem q587 : (Jvm.Cond.methodLink "java/lang/StringBuilder" (343 : Nat) ({ cls := "java/lang/AbstractStringBuilder", name := "length", desc := "()I" } : Jvm.MethodName)) ∈ lw_all := lw_g (lw_at lw_m3 31 rfl) rfl
theorem q761 : (Jvm.Cond.selects "java/lang/StringBuilder" ({ cls := "java/lang/Object", name := "getClass", desc := "()Ljava/lang/Class;" } : Jvm.MethodName) ({ cls := "java/lang/Object", name := "getClass", desc := "()Ljava/lang/Class;" } : Jvm.MethodName)) ∈ lw_all := lw_g (lw_at lw_m3 205 rfl) rfl
theorem q1357 : (Jvm.Cond.selects "java/lang/StringBuilder" ({ cls := "java/lang/Object", name := "hashCode", desc := "()I" } : Jvm.MethodName) ({ cls := "java/lang/Object", name := "hashCode", desc := "()I" } : Jvm.MethodName)) ∈ lw_all := lw_g (lw_at lw_m6 81 rfl) rfl
theorem q1403 : (Jvm.Cond.selects "java/lang/StringBuilder" ({ cls := "java/lang/Object", name := "equals", desc := "(Ljava/lang/Object;)Z" } : Jvm.MethodName) ({ cls := "java/lang/Object", name := "equals", desc := "(Ljava/lang/Object;)Z" } : Jvm.MethodName)) ∈ lw_all := lw_g (lw_at lw_m6 127 rfl) rfl
theorem q1588 : (Jvm.Cond.castable "java/lang/StringBuilder" "java/lang/Comparable") ∈ lw_tbl := lw_at lw_m7 72 rfl
theorem q1589 : (Jvm.Cond.selects "java/lang/StringBuilder" ({ cls := "java/lang/Comparable", name := "compareTo", desc := "(Ljava/lang/Object;)I" } : Jvm.MethodName) ({ cls := "java/lang/StringBuilder", name := "compareTo", desc := "(Ljava/lang/Object;)I" } : Jvm.MethodName)) ∈ lw_all := lw_g (lw_at lw_m7 73 rfl) rfl
theorem q1590 : (Jvm.Cond.unhidden "java/lang/StringBuilder" "compareTo" "(Ljava/lang/Object;)I") ∈ lw_tbl := lw_at lw_m7 74 rfl
theorem q1591 : (Jvm.Cond.instanceMethod ({ cls := "java/lang/StringBuilder", name := "compareTo", desc := "(Ljava/lang/Object;)I" } : Jvm.MethodName)) ∈ lw_all := lw_g (lw_at lw_m7 75 rfl) rfl
theorem q1592 : (Jvm.Cond.publicMethod ({ cls := "java/lang/StringBuilder", name := "compareTo", desc := "(Ljava/lang/Object;)I" } : Jvm.MethodName)) ∈ lw_tbl := lw_at lw_m7 76 rfl
theorem q1593 : (Jvm.Cond.code ({ cls := "java/lang/StringBuilder", name := "compareTo", desc := "(Ljava/lang/Object;)I" } : Jvm.MethodName) prog_45_method_97_code (2 : Nat) (Option.some Jvm.ClassFile.FieldType.int)) ∈ lw_all := lw_g (lw_at lw_m7 77 rfl) rfl
theorem q1594 : (Jvm.Cond.classLink "java/lang/StringBuilder" (24 : Nat) "java/lang/StringBuilder") ∈ lw_all := lw_g (lw_at lw_m7 78 rfl) rfl
theorem q1595 : (Jvm.Cond.methodLink "java/lang/StringBuilder" (346 : Nat) ({ cls := "java/lang/StringBuilder", name := "compareTo", desc := "(Ljava/lang/StringBuilder;)I" } : Jvm.MethodName)) ∈ lw_all := lw_g (lw_at lw_m7 79 rfl) rfl
theorem q1596 : (Jvm.Cond.instanceMethod ({ cls := "java/lang/StringBuilder", name := "compareTo", desc := "(Ljava/lang/StringBuilder;)I" } : Jvm.MethodName)) ∈ lw_all := lw_g (lw_at lw_m7 80 rfl) rfl
theorem q1597 : (Jvm.Cond.selects "java/lang/StringBuilder" ({ cls := "java/lang/StringBuilder", name := "compareTo", desc := "(Ljava/lang/StringBuilder;)I" } : Jvm.MethodName) ({ cls := "java/lang/StringBuilder", name := "compareTo", desc := "(Ljava/lang/StringBuilder;)I" } : Jvm.MethodName)) ∈ lw_all := lw_g (lw_at lw_m7 81 rfl) rfl
theorem q1598 : (Jvm.Cond.code ({ cls := "java/lang/StringBuilder", name := "compareTo", desc := "(Ljava/lang/StringBuilder;)I" } : Jvm.MethodName) prog_45_method_5_code (2 : Nat) (Option.some Jvm.ClassFile.FieldType.int)) ∈ lw_all := lw_g (lw_at lw_m7 82 rfl) rfl
theorem q1599 : (Jvm.Cond.methodLink "java/lang/StringBuilder" (13 : Nat) ({ cls := "java/lang/AbstractStringBuilder", name := "compareTo", desc := "(Ljava/lang/AbstractStringBuilder;)I" } : Jvm.MethodName)) ∈ lw_all := lw_g (lw_at lw_m7 83 rfl) rfl
theorem q3694 : (Jvm.Cond.castable "java/lang/StringBuilder" "java/lang/Object") ∈ lw_tbl := lw_at lw_m16 18 rfl
theorem in_J22 : ∀ w ∈ wsJ220, w ∈ lw_all := lw_in wsJ220 [407, 409, 411, 413] (by decide +kernel) (by decide +kernel)
/-! java/lang/StringUTF16 -/
def RJ23 : String := "java/lang/StringUTF16"
abbrev cJ23_newBytesFor : ByteArray := prog_47_method_2_code
def yJ23_newBytesFor : MethodName := ⟨RJ23, "newBytesFor", "(I)[B"⟩
abbrev cJ23_newBytesLength : ByteArray := prog_47_method_3_code
def yJ23_newBytesLength : MethodName := ⟨RJ23, "newBytesLength", "(I)I"⟩
abbrev cJ23_putCharsAt : ByteArray := prog_47_method_81_code
def yJ23_putCharsAt : MethodName := ⟨RJ23, "putCharsAt", "([BICCCC)I"⟩
abbrev cJ23_checkBoundsBeginEnd : ByteArray := prog_47_method_93_code
def yJ23_checkBoundsBeginEnd : MethodName := ⟨RJ23, "checkBoundsBeginEnd", "(II[B)V"⟩
abbrev cJ23_length : ByteArray := prog_47_method_6_code
def yJ23_length : MethodName := ⟨RJ23, "length", "([B)I"⟩
abbrev cJ23_putChar : ByteArray := prog_47_method_4_code
def yJ23_putChar : MethodName := ⟨RJ23, "putChar", "([BII)V"⟩
abbrev cJ23_inflate : ByteArray := prog_47_method_86_code
def yJ23_inflate : MethodName := ⟨RJ23, "inflate", "([BI[BII)V"⟩
abbrev cJ23_checkBoundsOffCount : ByteArray := prog_47_method_94_code
def yJ23_checkBoundsOffCount : MethodName := ⟨RJ23, "checkBoundsOffCount", "(II[B)V"⟩
abbrev cJ23_getChars : ByteArray := prog_47_method_77_code
def yJ23_getChars : MethodName := ⟨RJ23, "getChars", "(III[B)I"⟩
abbrev cJ23_getChars_2 : ByteArray := prog_47_method_89_code
def yJ23_getChars_2 : MethodName := ⟨RJ23, "getChars", "(II[B)I"⟩
abbrev cJ23_compress : ByteArray := prog_47_method_17_code
def yJ23_compress : MethodName := ⟨RJ23, "compress", "([BII)[B"⟩
abbrev cJ23_compress_2 : ByteArray := prog_47_method_22_code
def yJ23_compress_2 : MethodName := ⟨RJ23, "compress", "([BI[BII)I"⟩
abbrev cJ23_getChar : ByteArray := prog_47_method_5_code
def yJ23_getChar : MethodName := ⟨RJ23, "getChar", "([BI)C"⟩
abbrev cJ23_coderFromArrayLen : ByteArray := prog_47_method_15_code
def yJ23_coderFromArrayLen : MethodName := ⟨RJ23, "coderFromArrayLen", "([BI)B"⟩
abbrev cJ23_hashCode : ByteArray := prog_47_method_39_code
def yJ23_hashCode : MethodName := ⟨RJ23, "hashCode", "([B)I"⟩
abbrev cJ23_compareTo : ByteArray := prog_47_method_29_code
def yJ23_compareTo : MethodName := ⟨RJ23, "compareTo", "([B[B)I"⟩
abbrev cJ23_compareValues : ByteArray := prog_47_method_31_code
def yJ23_compareValues : MethodName := ⟨RJ23, "compareValues", "([B[BII)I"⟩
abbrev cJ23_compareToLatin1 : ByteArray := prog_47_method_32_code
def yJ23_compareToLatin1 : MethodName := ⟨RJ23, "compareToLatin1", "([B[B)I"⟩
abbrev cJ23_compareTo_2 : ByteArray := prog_47_method_30_code
def yJ23_compareTo_2 : MethodName := ⟨RJ23, "compareTo", "([B[BII)I"⟩
abbrev cJ23_checkOffset : ByteArray := prog_47_method_92_code
def yJ23_checkOffset : MethodName := ⟨RJ23, "checkOffset", "(I[B)V"⟩
abbrev cJ23_compareToLatin1_2 : ByteArray := prog_47_method_33_code
def yJ23_compareToLatin1_2 : MethodName := ⟨RJ23, "compareToLatin1", "([B[BII)I"⟩
abbrev cJ23_indexOf : ByteArray := prog_47_method_40_code
def yJ23_indexOf : MethodName := ⟨RJ23, "indexOf", "([BIII)I"⟩
abbrev cJ23_indexOfChar : ByteArray := prog_47_method_47_code
def yJ23_indexOfChar : MethodName := ⟨RJ23, "indexOfChar", "([BIII)I"⟩
abbrev cJ23_indexOfCharUnsafe : ByteArray := prog_47_method_48_code
def yJ23_indexOfCharUnsafe : MethodName := ⟨RJ23, "indexOfCharUnsafe", "([BIII)I"⟩
abbrev cJ23_indexOfSupplementary : ByteArray := prog_47_method_49_code
def yJ23_indexOfSupplementary : MethodName := ⟨RJ23, "indexOfSupplementary", "([BIII)I"⟩
theorem q108 : (Jvm.Cond.initialized "java/lang/StringUTF16") ∈ lw_all := lw_g (lw_at lw_m1 32 rfl) rfl
theorem q397 : (Jvm.Cond.static ({ cls := "java/lang/StringUTF16", name := "newBytesFor", desc := "(I)[B" } : Jvm.MethodName)) ∈ lw_all := lw_g (lw_at lw_m2 81 rfl) rfl
theorem q398 : (Jvm.Cond.code ({ cls := "java/lang/StringUTF16", name := "newBytesFor", desc := "(I)[B" } : Jvm.MethodName) prog_47_method_2_code (1 : Nat) (Option.some (Jvm.ClassFile.FieldType.array Jvm.ClassFile.FieldType.byte))) ∈ lw_all := lw_g (lw_at lw_m2 82 rfl) rfl
theorem q399 : (Jvm.Cond.methodLink "java/lang/StringUTF16" (11 : Nat) ({ cls := "java/lang/StringUTF16", name := "newBytesLength", desc := "(I)I" } : Jvm.MethodName)) ∈ lw_all := lw_g (lw_at lw_m2 83 rfl) rfl
theorem q400 : (Jvm.Cond.static ({ cls := "java/lang/StringUTF16", name := "newBytesLength", desc := "(I)I" } : Jvm.MethodName)) ∈ lw_all := lw_g (lw_at lw_m2 84 rfl) rfl
theorem q401 : (Jvm.Cond.code ({ cls := "java/lang/StringUTF16", name := "newBytesLength", desc := "(I)I" } : Jvm.MethodName) prog_47_method_3_code (1 : Nat) (Option.some Jvm.ClassFile.FieldType.int)) ∈ lw_all := lw_g (lw_at lw_m2 85 rfl) rfl
theorem q402 : (Jvm.Cond.constant "java/lang/StringUTF16" (20 : Nat) (1073741823 : Int32)) ∈ lw_all := lw_g (lw_at lw_m2 86 rfl) rfl
theorem q470 : (Jvm.Cond.static ({ cls := "java/lang/StringUTF16", name := "putCharsAt", desc := "([BICCCC)I" } : Jvm.MethodName)) ∈ lw_all := lw_g (lw_at lw_m2 154 rfl) rfl
theorem q471 : (Jvm.Cond.code ({ cls := "java/lang/StringUTF16", name := "putCharsAt", desc := "([BICCCC)I" } : Jvm.MethodName) prog_47_method_81_code (7 : Nat) (Option.some Jvm.ClassFile.FieldType.int)) ∈ lw_all := lw_g (lw_at lw_m2 155 rfl) rfl
theorem q472 : (Jvm.Cond.methodLink "java/lang/StringUTF16" (96 : Nat) ({ cls := "java/lang/StringUTF16", name := "checkBoundsBeginEnd", desc := "(II[B)V" } : Jvm.MethodName)) ∈ lw_all := lw_g (lw_at lw_m2 156 rfl) rfl
theorem q473 : (Jvm.Cond.static ({ cls := "java/lang/StringUTF16", name := "checkBoundsBeginEnd", desc := "(II[B)V" } : Jvm.MethodName)) ∈ lw_all := lw_g (lw_at lw_m2 157 rfl) rfl
theorem q474 : (Jvm.Cond.code ({ cls := "java/lang/StringUTF16", name := "checkBoundsBeginEnd", desc := "(II[B)V" } : Jvm.MethodName) prog_47_method_93_code (3 : Nat) (Option.none : Option Jvm.ClassFile.FieldType)) ∈ lw_all := lw_g (lw_at lw_m2 158 rfl) rfl
theorem q475 : (Jvm.Cond.methodLink "java/lang/StringUTF16" (48 : Nat) ({ cls := "java/lang/StringUTF16", name := "length", desc := "([B)I" } : Jvm.MethodName)) ∈ lw_all := lw_g (lw_at lw_m2 159 rfl) rfl
theorem q476 : (Jvm.Cond.static ({ cls := "java/lang/StringUTF16", name := "length", desc := "([B)I" } : Jvm.MethodName)) ∈ lw_all := lw_g (lw_at lw_m2 160 rfl) rfl
theorem q477 : (Jvm.Cond.code ({ cls := "java/lang/StringUTF16", name := "length", desc := "([B)I" } : Jvm.MethodName) prog_47_method_6_code (1 : Nat) (Option.some Jvm.ClassFile.FieldType.int)) ∈ lw_all := lw_g (lw_at lw_m2 161 rfl) rfl
theorem q478 : (Jvm.Cond.methodLink "java/lang/StringUTF16" (241 : Nat) ({ cls := "java/lang/String", name := "checkBoundsBeginEnd", desc := "(III)V" } : Jvm.MethodName)) ∈ lw_all := lw_g (lw_at lw_m2 162 rfl) rfl
theorem q486 : (Jvm.Cond.methodLink "java/lang/StringUTF16" (111 : Nat) ({ cls := "java/lang/StringUTF16", name := "putChar", desc := "([BII)V" } : Jvm.MethodName)) ∈ lw_all := lw_g (lw_at lw_m2 170 rfl) rfl
theorem q487 : (Jvm.Cond.static ({ cls := "java/lang/StringUTF16", name := "putChar", desc := "([BII)V" } : Jvm.MethodName)) ∈ lw_all := lw_g (lw_at lw_m2 171 rfl) rfl
theorem q488 : (Jvm.Cond.code ({ cls := "java/lang/StringUTF16", name := "putChar", desc := "([BII)V" } : Jvm.MethodName) prog_47_method_4_code (3 : Nat) (Option.none : Option Jvm.ClassFile.FieldType)) ∈ lw_all := lw_g (lw_at lw_m2 172 rfl) rfl
theorem q489 : (Jvm.Cond.fieldLink "java/lang/StringUTF16" (44 : Nat) "java/lang/StringUTF16" "$assertionsDisabled" "Z") ∈ lw_all := lw_g (lw_at lw_m2 173 rfl) rfl
theorem q490 : (Jvm.Cond.laysStatic "java/lang/StringUTF16" "$assertionsDisabled" "Z") ∈ lw_tbl := lw_at lw_m2 174 rfl
theorem q491 : (Jvm.Cond.fieldLink "java/lang/StringUTF16" (59 : Nat) "java/lang/StringUTF16" "HI_BYTE_SHIFT" "I") ∈ lw_all := lw_g (lw_at lw_m2 175 rfl) rfl
theorem q492 : (Jvm.Cond.laysStatic "java/lang/StringUTF16" "HI_BYTE_SHIFT" "I") ∈ lw_tbl := lw_at lw_m2 176 rfl
theorem q493 : (Jvm.Cond.fieldLink "java/lang/StringUTF16" (63 : Nat) "java/lang/StringUTF16" "LO_BYTE_SHIFT" "I") ∈ lw_all := lw_g (lw_at lw_m2 177 rfl) rfl
theorem q494 : (Jvm.Cond.laysStatic "java/lang/StringUTF16" "LO_BYTE_SHIFT" "I") ∈ lw_tbl := lw_at lw_m2 178 rfl
theorem q521 : (Jvm.Cond.static ({ cls := "java/lang/StringUTF16", name := "inflate", desc := "([BI[BII)V" } : Jvm.MethodName)) ∈ lw_all := lw_g (lw_at lw_m2 205 rfl) rfl
theorem q522 : (Jvm.Cond.code ({ cls := "java/lang/StringUTF16", name := "inflate", desc := "([BI[BII)V" } : Jvm.MethodName) prog_47_method_86_code (6 : Nat) (Option.none : Option Jvm.ClassFile.FieldType)) ∈ lw_all := lw_g (lw_at lw_m2 206 rfl) rfl
theorem q523 : (Jvm.Cond.methodLink "java/lang/StringUTF16" (173 : Nat) ({ cls := "java/lang/StringUTF16", name := "checkBoundsOffCount", desc := "(II[B)V" } : Jvm.MethodName)) ∈ lw_all := lw_g (lw_at lw_m2 207 rfl) rfl
theorem q524 : (Jvm.Cond.static ({ cls := "java/lang/StringUTF16", name := "checkBoundsOffCount", desc := "(II[B)V" } : Jvm.MethodName)) ∈ lw_all := lw_g (lw_at lw_m2 208 rfl) rfl
theorem q525 : (Jvm.Cond.code ({ cls := "java/lang/StringUTF16", name := "checkBoundsOffCount", desc := "(II[B)V" } : Jvm.MethodName) prog_47_method_94_code (3 : Nat) (Option.none : Option Jvm.ClassFile.FieldType)) ∈ lw_all := lw_g (lw_at lw_m2 209 rfl) rfl
theorem q526 : (Jvm.Cond.methodLink "java/lang/StringUTF16" (419 : Nat) ({ cls := "java/lang/String", name := "checkBoundsOffCount", desc := "(III)I" } : Jvm.MethodName)) ∈ lw_all := lw_g (lw_at lw_m2 210 rfl) rfl
theorem q556 : (Jvm.Cond.static ({ cls := "java/lang/StringUTF16", name := "getChars", desc := "(III[B)I" } : Jvm.MethodName)) ∈ lw_all := lw_g (lw_at lw_m3 0 rfl) rfl
theorem q557 : (Jvm.Cond.code ({ cls := "java/lang/StringUTF16", name := "getChars", desc := "(III[B)I" } : Jvm.MethodName) prog_47_method_77_code (5 : Nat) (Option.some Jvm.ClassFile.FieldType.int)) ∈ lw_all := lw_g (lw_at lw_m3 1 rfl) rfl
theorem q558 : (Jvm.Cond.methodLink "java/lang/StringUTF16" (393 : Nat) ({ cls := "java/lang/StringUTF16", name := "getChars", desc := "(II[B)I" } : Jvm.MethodName)) ∈ lw_all := lw_g (lw_at lw_m3 2 rfl) rfl
theorem q559 : (Jvm.Cond.static ({ cls := "java/lang/StringUTF16", name := "getChars", desc := "(II[B)I" } : Jvm.MethodName)) ∈ lw_all := lw_g (lw_at lw_m3 3 rfl) rfl
theorem q560 : (Jvm.Cond.code ({ cls := "java/lang/StringUTF16", name := "getChars", desc := "(II[B)I" } : Jvm.MethodName) prog_47_method_89_code (7 : Nat) (Option.some Jvm.ClassFile.FieldType.int)) ∈ lw_all := lw_g (lw_at lw_m3 4 rfl) rfl
theorem q561 : (Jvm.Cond.fieldLink "java/lang/StringUTF16" (403 : Nat) "java/lang/Integer" "DigitOnes" "[B") ∈ lw_all := lw_g (lw_at lw_m3 5 rfl) rfl
theorem q562 : (Jvm.Cond.fieldLink "java/lang/StringUTF16" (407 : Nat) "java/lang/Integer" "DigitTens" "[B") ∈ lw_all := lw_g (lw_at lw_m3 6 rfl) rfl
theorem q640 : (Jvm.Cond.static ({ cls := "java/lang/StringUTF16", name := "compress", desc := "([BII)[B" } : Jvm.MethodName)) ∈ lw_all := lw_g (lw_at lw_m3 84 rfl) rfl
theorem q641 : (Jvm.Cond.code ({ cls := "java/lang/StringUTF16", name := "compress", desc := "([BII)[B" } : Jvm.MethodName) prog_47_method_17_code (6 : Nat) (Option.some (Jvm.ClassFile.FieldType.array Jvm.ClassFile.FieldType.byte))) ∈ lw_all := lw_g (lw_at lw_m3 85 rfl) rfl
theorem q642 : (Jvm.Cond.methodLink "java/lang/StringUTF16" (123 : Nat) ({ cls := "java/lang/StringUTF16", name := "compress", desc := "([BI[BII)I" } : Jvm.MethodName)) ∈ lw_all := lw_g (lw_at lw_m3 86 rfl) rfl
theorem q643 : (Jvm.Cond.static ({ cls := "java/lang/StringUTF16", name := "compress", desc := "([BI[BII)I" } : Jvm.MethodName)) ∈ lw_all := lw_g (lw_at lw_m3 87 rfl) rfl
theorem q644 : (Jvm.Cond.code ({ cls := "java/lang/StringUTF16", name := "compress", desc := "([BI[BII)I" } : Jvm.MethodName) prog_47_method_22_code (7 : Nat) (Option.some Jvm.ClassFile.FieldType.int)) ∈ lw_all := lw_g (lw_at lw_m3 88 rfl) rfl
theorem q645 : (Jvm.Cond.methodLink "java/lang/StringUTF16" (71 : Nat) ({ cls := "java/lang/StringUTF16", name := "getChar", desc := "([BI)C" } : Jvm.MethodName)) ∈ lw_all := lw_g (lw_at lw_m3 89 rfl) rfl
theorem q646 : (Jvm.Cond.static ({ cls := "java/lang/StringUTF16", name := "getChar", desc := "([BI)C" } : Jvm.MethodName)) ∈ lw_all := lw_g (lw_at lw_m3 90 rfl) rfl
theorem q647 : (Jvm.Cond.code ({ cls := "java/lang/StringUTF16", name := "getChar", desc := "([BI)C" } : Jvm.MethodName) prog_47_method_5_code (2 : Nat) (Option.some Jvm.ClassFile.FieldType.char)) ∈ lw_all := lw_g (lw_at lw_m3 91 rfl) rfl
theorem q648 : (Jvm.Cond.methodLink "java/lang/StringUTF16" (126 : Nat) ({ cls := "java/util/Arrays", name := "copyOfRange", desc := "([BII)[B" } : Jvm.MethodName)) ∈ lw_all := lw_g (lw_at lw_m3 92 rfl) rfl
theorem q650 : (Jvm.Cond.static ({ cls := "java/lang/StringUTF16", name := "coderFromArrayLen", desc := "([BI)B" } : Jvm.MethodName)) ∈ lw_all := lw_g (lw_at lw_m3 94 rfl) rfl
theorem q651 : (Jvm.Cond.code ({ cls := "java/lang/StringUTF16", name := "coderFromArrayLen", desc := "([BI)B" } : Jvm.MethodName) prog_47_method_15_code (2 : Nat) (Option.some Jvm.ClassFile.FieldType.byte)) ∈ lw_all := lw_g (lw_at lw_m3 95 rfl) rfl
theorem q1354 : (Jvm.Cond.static ({ cls := "java/lang/StringUTF16", name := "hashCode", desc := "([B)I" } : Jvm.MethodName)) ∈ lw_all := lw_g (lw_at lw_m6 78 rfl) rfl
theorem q1355 : (Jvm.Cond.code ({ cls := "java/lang/StringUTF16", name := "hashCode", desc := "([B)I" } : Jvm.MethodName) prog_47_method_39_code (1 : Nat) (Option.some Jvm.ClassFile.FieldType.int)) ∈ lw_all := lw_g (lw_at lw_m6 79 rfl) rfl
theorem q1356 : (Jvm.Cond.methodLink "java/lang/StringUTF16" (220 : Nat) ({ cls := "jdk/internal/util/ArraysSupport", name := "vectorizedHashCode", desc := "(Ljava/lang/Object;IIII)I" } : Jvm.MethodName)) ∈ lw_all := lw_g (lw_at lw_m6 80 rfl) rfl
theorem q1567 : (Jvm.Cond.static ({ cls := "java/lang/StringUTF16", name := "compareTo", desc := "([B[B)I" } : Jvm.MethodName)) ∈ lw_all := lw_g (lw_at lw_m7 51 rfl) rfl
theorem q1568 : (Jvm.Cond.code ({ cls := "java/lang/StringUTF16", name := "compareTo", desc := "([B[B)I" } : Jvm.MethodName) prog_47_method_29_code (4 : Nat) (Option.some Jvm.ClassFile.FieldType.int)) ∈ lw_all := lw_g (lw_at lw_m7 52 rfl) rfl
theorem q1569 : (Jvm.Cond.methodLink "java/lang/StringUTF16" (176 : Nat) ({ cls := "java/lang/StringUTF16", name := "compareValues", desc := "([B[BII)I" } : Jvm.MethodName)) ∈ lw_all := lw_g (lw_at lw_m7 53 rfl) rfl
theorem q1570 : (Jvm.Cond.static ({ cls := "java/lang/StringUTF16", name := "compareValues", desc := "([B[BII)I" } : Jvm.MethodName)) ∈ lw_all := lw_g (lw_at lw_m7 54 rfl) rfl
theorem q1571 : (Jvm.Cond.code ({ cls := "java/lang/StringUTF16", name := "compareValues", desc := "([B[BII)I" } : Jvm.MethodName) prog_47_method_31_code (8 : Nat) (Option.some Jvm.ClassFile.FieldType.int)) ∈ lw_all := lw_g (lw_at lw_m7 55 rfl) rfl
theorem q1572 : (Jvm.Cond.methodLink "java/lang/StringUTF16" (183 : Nat) ({ cls := "java/lang/Math", name := "min", desc := "(II)I" } : Jvm.MethodName)) ∈ lw_all := lw_g (lw_at lw_m7 56 rfl) rfl
theorem q1585 : (Jvm.Cond.static ({ cls := "java/lang/StringUTF16", name := "compareToLatin1", desc := "([B[B)I" } : Jvm.MethodName)) ∈ lw_all := lw_g (lw_at lw_m7 69 rfl) rfl
theorem q1586 : (Jvm.Cond.code ({ cls := "java/lang/StringUTF16", name := "compareToLatin1", desc := "([B[B)I" } : Jvm.MethodName) prog_47_method_32_code (2 : Nat) (Option.some Jvm.ClassFile.FieldType.int)) ∈ lw_all := lw_g (lw_at lw_m7 70 rfl) rfl
theorem q1587 : (Jvm.Cond.methodLink "java/lang/StringUTF16" (189 : Nat) ({ cls := "java/lang/StringLatin1", name := "compareToUTF16", desc := "([B[B)I" } : Jvm.MethodName)) ∈ lw_all := lw_g (lw_at lw_m7 71 rfl) rfl
theorem q1604 : (Jvm.Cond.static ({ cls := "java/lang/StringUTF16", name := "compareTo", desc := "([B[BII)I" } : Jvm.MethodName)) ∈ lw_all := lw_g (lw_at lw_m7 88 rfl) rfl
theorem q1605 : (Jvm.Cond.code ({ cls := "java/lang/StringUTF16", name := "compareTo", desc := "([B[BII)I" } : Jvm.MethodName) prog_47_method_30_code (4 : Nat) (Option.some Jvm.ClassFile.FieldType.int)) ∈ lw_all := lw_g (lw_at lw_m7 89 rfl) rfl
theorem q1606 : (Jvm.Cond.methodLink "java/lang/StringUTF16" (180 : Nat) ({ cls := "java/lang/StringUTF16", name := "checkOffset", desc := "(I[B)V" } : Jvm.MethodName)) ∈ lw_all := lw_g (lw_at lw_m7 90 rfl) rfl
theorem q1607 : (Jvm.Cond.static ({ cls := "java/lang/StringUTF16", name := "checkOffset", desc := "(I[B)V" } : Jvm.MethodName)) ∈ lw_all := lw_g (lw_at lw_m7 91 rfl) rfl
theorem q1608 : (Jvm.Cond.code ({ cls := "java/lang/StringUTF16", name := "checkOffset", desc := "(I[B)V" } : Jvm.MethodName) prog_47_method_92_code (2 : Nat) (Option.none : Option Jvm.ClassFile.FieldType)) ∈ lw_all := lw_g (lw_at lw_m7 92 rfl) rfl
theorem q1609 : (Jvm.Cond.methodLink "java/lang/StringUTF16" (417 : Nat) ({ cls := "java/lang/String", name := "checkOffset", desc := "(II)V" } : Jvm.MethodName)) ∈ lw_all := lw_g (lw_at lw_m7 93 rfl) rfl
theorem q1617 : (Jvm.Cond.static ({ cls := "java/lang/StringUTF16", name := "compareToLatin1", desc := "([B[BII)I" } : Jvm.MethodName)) ∈ lw_all := lw_g (lw_at lw_m7 101 rfl) rfl
theorem q1618 : (Jvm.Cond.code ({ cls := "java/lang/StringUTF16", name := "compareToLatin1", desc := "([B[BII)I" } : Jvm.MethodName) prog_47_method_33_code (4 : Nat) (Option.some Jvm.ClassFile.FieldType.int)) ∈ lw_all := lw_g (lw_at lw_m7 102 rfl) rfl
theorem q1619 : (Jvm.Cond.methodLink "java/lang/StringUTF16" (193 : Nat) ({ cls := "java/lang/StringLatin1", name := "compareToUTF16", desc := "([B[BII)I" } : Jvm.MethodName)) ∈ lw_all := lw_g (lw_at lw_m7 103 rfl) rfl
theorem q2940 : (Jvm.Cond.static ({ cls := "java/lang/StringUTF16", name := "indexOf", desc := "([BIII)I" } : Jvm.MethodName)) ∈ lw_all := lw_g (lw_at lw_m12 224 rfl) rfl
theorem q2941 : (Jvm.Cond.code ({ cls := "java/lang/StringUTF16", name := "indexOf", desc := "([BIII)I" } : Jvm.MethodName) prog_47_method_40_code (4 : Nat) (Option.some Jvm.ClassFile.FieldType.int)) ∈ lw_all := lw_g (lw_at lw_m12 225 rfl) rfl
theorem q2942 : (Jvm.Cond.methodLink "java/lang/StringUTF16" (224 : Nat) ({ cls := "java/lang/Math", name := "max", desc := "(II)I" } : Jvm.MethodName)) ∈ lw_all := lw_g (lw_at lw_m12 226 rfl) rfl
theorem q2943 : (Jvm.Cond.constant "java/lang/StringUTF16" (227 : Nat) (65536 : Int32)) ∈ lw_all := lw_g (lw_at lw_m12 227 rfl) rfl
theorem q2944 : (Jvm.Cond.methodLink "java/lang/StringUTF16" (228 : Nat) ({ cls := "java/lang/StringUTF16", name := "indexOfChar", desc := "([BIII)I" } : Jvm.MethodName)) ∈ lw_all := lw_g (lw_at lw_m12 228 rfl) rfl
theorem q2945 : (Jvm.Cond.static ({ cls := "java/lang/StringUTF16", name := "indexOfChar", desc := "([BIII)I" } : Jvm.MethodName)) ∈ lw_all := lw_g (lw_at lw_m12 229 rfl) rfl
theorem q2946 : (Jvm.Cond.code ({ cls := "java/lang/StringUTF16", name := "indexOfChar", desc := "([BIII)I" } : Jvm.MethodName) prog_47_method_47_code (4 : Nat) (Option.some Jvm.ClassFile.FieldType.int)) ∈ lw_all := lw_g (lw_at lw_m12 230 rfl) rfl
theorem q2947 : (Jvm.Cond.methodLink "java/lang/StringUTF16" (244 : Nat) ({ cls := "java/lang/StringUTF16", name := "indexOfCharUnsafe", desc := "([BIII)I" } : Jvm.MethodName)) ∈ lw_all := lw_g (lw_at lw_m12 231 rfl) rfl
theorem q2948 : (Jvm.Cond.static ({ cls := "java/lang/StringUTF16", name := "indexOfCharUnsafe", desc := "([BIII)I" } : Jvm.MethodName)) ∈ lw_all := lw_g (lw_at lw_m12 232 rfl) rfl
theorem q2949 : (Jvm.Cond.code ({ cls := "java/lang/StringUTF16", name := "indexOfCharUnsafe", desc := "([BIII)I" } : Jvm.MethodName) prog_47_method_48_code (5 : Nat) (Option.some Jvm.ClassFile.FieldType.int)) ∈ lw_all := lw_g (lw_at lw_m12 233 rfl) rfl
theorem q2950 : (Jvm.Cond.methodLink "java/lang/StringUTF16" (232 : Nat) ({ cls := "java/lang/StringUTF16", name := "indexOfSupplementary", desc := "([BIII)I" } : Jvm.MethodName)) ∈ lw_all := lw_g (lw_at lw_m12 234 rfl) rfl
theorem q2951 : (Jvm.Cond.static ({ cls := "java/lang/StringUTF16", name := "indexOfSupplementary", desc := "([BIII)I" } : Jvm.MethodName)) ∈ lw_all := lw_g (lw_at lw_m12 235 rfl) rfl
theorem q2952 : (Jvm.Cond.code ({ cls := "java/lang/StringUTF16", name := "indexOfSupplementary", desc := "([BIII)I" } : Jvm.MethodName) prog_47_method_49_code (7 : Nat) (Option.some Jvm.ClassFile.FieldType.int)) ∈ lw_all := lw_g (lw_at lw_m12 236 rfl) rfl
theorem q2953 : (Jvm.Cond.methodLink "java/lang/StringUTF16" (164 : Nat) ({ cls := "java/lang/Character", name := "isValidCodePoint", desc := "(I)Z" } : Jvm.MethodName)) ∈ lw_all := lw_g (lw_at lw_m12 237 rfl) rfl
theorem q2956 : (Jvm.Cond.methodLink "java/lang/StringUTF16" (157 : Nat) ({ cls := "java/lang/Character", name := "highSurrogate", desc := "(I)C" } : Jvm.MethodName)) ∈ lw_all := lw_g (lw_at lw_m13 0 rfl) rfl
theorem q2960 : (Jvm.Cond.methodLink "java/lang/StringUTF16" (161 : Nat) ({ cls := "java/lang/Character", name := "lowSurrogate", desc := "(I)C" } : Jvm.MethodName)) ∈ lw_all := lw_g (lw_at lw_m13 4 rfl) rfl
/-! java/lang/StringLatin1 -/
def RJ24 : String := "java/lang/StringLatin1"
abbrev cJ24_inflate : ByteArray := prog_46_method_50_code
def yJ24_inflate : MethodName := ⟨RJ24, "inflate", "([BI[BII)V"⟩
def dkwJ24_inflate_0 : List UInt8 := [42, 27, 44, 29, 21, 4, 184, 0, 240, 177]
abbrev dktJ24_inflate_0 : List UInt8 := dkwJ24_inflate_0 ++ []
theorem dksJ24_inflate_0 : cJ24_inflate.data.toList.drop 0 = dktJ24_inflate_0 := by decide +kernel
theorem dJ24_inflate_0 : decode cJ24_inflate 0 = .ok (.aload_n 0, 1) := dk_42 (dk_at dksJ24_inflate_0 0 rfl rfl)
theorem dJ24_inflate_1 : decode cJ24_inflate 1 = .ok (.iload_n 1, 1) := dk_27 (dk_at dksJ24_inflate_0 1 rfl rfl)
theorem dJ24_inflate_2 : decode cJ24_inflate 2 = .ok (.aload_n 2, 1) := dk_44 (dk_at dksJ24_inflate_0 2 rfl rfl)
theorem dJ24_inflate_3 : decode cJ24_inflate 3 = .ok (.iload_n 3, 1) := dk_29 (dk_at dksJ24_inflate_0 3 rfl rfl)
theorem dJ24_inflate_4 : decode cJ24_inflate 4 = .ok (.iload 4, 2) := dk_21 4 (dk_at dksJ24_inflate_0 4 rfl rfl)
theorem dJ24_inflate_6 : decode cJ24_inflate 6 = .ok (.invokestatic 240, 3) := dk_184 0 240 (dk_at dksJ24_inflate_0 6 rfl rfl)
theorem dJ24_inflate_9 : decode cJ24_inflate 9 = .ok (.return_, 1) := dk_177 (dk_at dksJ24_inflate_0 9 rfl rfl)
abbrev cJ24_hashCode : ByteArray := prog_46_method_21_code
def yJ24_hashCode : MethodName := ⟨RJ24, "hashCode", "([B)I"⟩
def dkwJ24_hashCode_2 : List UInt8 := [3, 167, 0, 22, 42, 3, 51, 17, 0, 255, 126, 167, 0, 12, 42, 3, 42, 190, 3, 7, 184, 0, 84, 172]
abbrev dktJ24_hashCode_2 : List UInt8 := dkwJ24_hashCode_2 ++ []
def dkwJ24_hashCode_1 : List UInt8 := [171, 0, 0, 0, 0, 40, 0, 0, 0, 2, 0, 0, 0, 0, 0, 0, 0, 26, 0, 0, 0, 1, 0, 0, 0, 30]
abbrev dktJ24_hashCode_1 : List UInt8 := dkwJ24_hashCode_1 ++ dktJ24_hashCode_2
def dkwJ24_hashCode_0 : List UInt8 := [42, 190]
abbrev dktJ24_hashCode_0 : List UInt8 := dkwJ24_hashCode_0 ++ dktJ24_hashCode_1
theorem dksJ24_hashCode_0 : cJ24_hashCode.data.toList.drop 0 = dktJ24_hashCode_0 := by decide +kernel
theorem dksJ24_hashCode_1 : cJ24_hashCode.data.toList.drop 2 = dktJ24_hashCode_1 := dk_seg dksJ24_hashCode_0 2 rfl rfl
theorem dksJ24_hashCode_2 : cJ24_hashCode.data.toList.drop 28 = dktJ24_hashCode_2 := dk_seg dksJ24_hashCode_1 26 rfl rfl
theorem dJ24_hashCode_0 : decode cJ24_hashCode 0 = .ok (.aload_n 0, 1) := dk_42 (dk_at dksJ24_hashCode_0 0 rfl rfl)
theorem dJ24_hashCode_1 : decode cJ24_hashCode 1 = .ok (.arraylength, 1) := dk_190 (dk_at dksJ24_hashCode_0 1 rfl rfl)
theorem dJ24_hashCode_2 : decode cJ24_hashCode 2 = .ok (.lookupswitch 40 #[(0, 26), (1, 30)], 26) := by decide +kernel
theorem dJ24_hashCode_28 : decode cJ24_hashCode 28 = .ok (.iconst 0, 1) := dk_3 (dk_at dksJ24_hashCode_2 0 rfl rfl)
theorem dJ24_hashCode_29 : decode cJ24_hashCode 29 = .ok (.goto 22, 3) := dk_167 0 22 (dk_at dksJ24_hashCode_2 1 rfl rfl)
theorem dJ24_hashCode_32 : decode cJ24_hashCode 32 = .ok (.aload_n 0, 1) := dk_42 (dk_at dksJ24_hashCode_2 4 rfl rfl)
theorem dJ24_hashCode_33 : decode cJ24_hashCode 33 = .ok (.iconst 0, 1) := dk_3 (dk_at dksJ24_hashCode_2 5 rfl rfl)
theorem dJ24_hashCode_34 : decode cJ24_hashCode 34 = .ok (.baload, 1) := dk_51 (dk_at dksJ24_hashCode_2 6 rfl rfl)
theorem dJ24_hashCode_35 : decode cJ24_hashCode 35 = .ok (.sipush 255, 3) := dk_17 0 255 (dk_at dksJ24_hashCode_2 7 rfl rfl)
theorem dJ24_hashCode_38 : decode cJ24_hashCode 38 = .ok (.iand, 1) := dk_126 (dk_at dksJ24_hashCode_2 10 rfl rfl)
theorem dJ24_hashCode_39 : decode cJ24_hashCode 39 = .ok (.goto 12, 3) := dk_167 0 12 (dk_at dksJ24_hashCode_2 11 rfl rfl)
theorem dJ24_hashCode_42 : decode cJ24_hashCode 42 = .ok (.aload_n 0, 1) := dk_42 (dk_at dksJ24_hashCode_2 14 rfl rfl)
theorem dJ24_hashCode_43 : decode cJ24_hashCode 43 = .ok (.iconst 0, 1) := dk_3 (dk_at dksJ24_hashCode_2 15 rfl rfl)
theorem dJ24_hashCode_44 : decode cJ24_hashCode 44 = .ok (.aload_n 0, 1) := dk_42 (dk_at dksJ24_hashCode_2 16 rfl rfl)
theorem dJ24_hashCode_45 : decode cJ24_hashCode 45 = .ok (.arraylength, 1) := dk_190 (dk_at dksJ24_hashCode_2 17 rfl rfl)
theorem dJ24_hashCode_46 : decode cJ24_hashCode 46 = .ok (.iconst 0, 1) := dk_3 (dk_at dksJ24_hashCode_2 18 rfl rfl)
theorem dJ24_hashCode_47 : decode cJ24_hashCode 47 = .ok (.iconst 4, 1) := dk_7 (dk_at dksJ24_hashCode_2 19 rfl rfl)
theorem dJ24_hashCode_48 : decode cJ24_hashCode 48 = .ok (.invokestatic 84, 3) := dk_184 0 84 (dk_at dksJ24_hashCode_2 20 rfl rfl)
theorem dJ24_hashCode_51 : decode cJ24_hashCode 51 = .ok (.ireturn, 1) := dk_172 (dk_at dksJ24_hashCode_2 23 rfl rfl)
abbrev cJ24_equals : ByteArray := prog_46_method_13_code
def yJ24_equals : MethodName := ⟨RJ24, "equals", "([B[B)Z"⟩
def dkwJ24_equals_1 : List UInt8 := [3, 172, 132, 2, 1, 167, 255, 236, 4, 172, 3, 172]
abbrev dktJ24_equals_1 : List UInt8 := dkwJ24_equals_1 ++ []
def dkwJ24_equals_0 : List UInt8 := [42, 190, 43, 190, 160, 0, 30, 3, 61, 28, 42, 190, 162, 0, 20, 42, 28, 51, 43, 28, 51, 159, 0, 5]
abbrev dktJ24_equals_0 : List UInt8 := dkwJ24_equals_0 ++ dktJ24_equals_1
theorem dksJ24_equals_0 : cJ24_equals.data.toList.drop 0 = dktJ24_equals_0 := by decide +kernel
theorem dksJ24_equals_1 : cJ24_equals.data.toList.drop 24 = dktJ24_equals_1 := dk_seg dksJ24_equals_0 24 rfl rfl
theorem dJ24_equals_0 : decode cJ24_equals 0 = .ok (.aload_n 0, 1) := dk_42 (dk_at dksJ24_equals_0 0 rfl rfl)
theorem dJ24_equals_1 : decode cJ24_equals 1 = .ok (.arraylength, 1) := dk_190 (dk_at dksJ24_equals_0 1 rfl rfl)
theorem dJ24_equals_2 : decode cJ24_equals 2 = .ok (.aload_n 1, 1) := dk_43 (dk_at dksJ24_equals_0 2 rfl rfl)
theorem dJ24_equals_3 : decode cJ24_equals 3 = .ok (.arraylength, 1) := dk_190 (dk_at dksJ24_equals_0 3 rfl rfl)
theorem dJ24_equals_4 : decode cJ24_equals 4 = .ok (.if_icmp .ne 30, 3) := dk_160 0 30 (dk_at dksJ24_equals_0 4 rfl rfl)
theorem dJ24_equals_7 : decode cJ24_equals 7 = .ok (.iconst 0, 1) := dk_3 (dk_at dksJ24_equals_0 7 rfl rfl)
theorem dJ24_equals_8 : decode cJ24_equals 8 = .ok (.istore_n 2, 1) := dk_61 (dk_at dksJ24_equals_0 8 rfl rfl)
theorem dJ24_equals_9 : decode cJ24_equals 9 = .ok (.iload_n 2, 1) := dk_28 (dk_at dksJ24_equals_0 9 rfl rfl)
theorem dJ24_equals_10 : decode cJ24_equals 10 = .ok (.aload_n 0, 1) := dk_42 (dk_at dksJ24_equals_0 10 rfl rfl)
theorem dJ24_equals_11 : decode cJ24_equals 11 = .ok (.arraylength, 1) := dk_190 (dk_at dksJ24_equals_0 11 rfl rfl)
theorem dJ24_equals_12 : decode cJ24_equals 12 = .ok (.if_icmp .ge 20, 3) := dk_162 0 20 (dk_at dksJ24_equals_0 12 rfl rfl)
theorem dJ24_equals_15 : decode cJ24_equals 15 = .ok (.aload_n 0, 1) := dk_42 (dk_at dksJ24_equals_0 15 rfl rfl)
theorem dJ24_equals_16 : decode cJ24_equals 16 = .ok (.iload_n 2, 1) := dk_28 (dk_at dksJ24_equals_0 16 rfl rfl)
theorem dJ24_equals_17 : decode cJ24_equals 17 = .ok (.baload, 1) := dk_51 (dk_at dksJ24_equals_0 17 rfl rfl)
theorem dJ24_equals_18 : decode cJ24_equals 18 = .ok (.aload_n 1, 1) := dk_43 (dk_at dksJ24_equals_0 18 rfl rfl)
theorem dJ24_equals_19 : decode cJ24_equals 19 = .ok (.iload_n 2, 1) := dk_28 (dk_at dksJ24_equals_0 19 rfl rfl)
theorem dJ24_equals_20 : decode cJ24_equals 20 = .ok (.baload, 1) := dk_51 (dk_at dksJ24_equals_0 20 rfl rfl)
theorem dJ24_equals_21 : decode cJ24_equals 21 = .ok (.if_icmp .eq 5, 3) := dk_159 0 5 (dk_at dksJ24_equals_0 21 rfl rfl)
theorem dJ24_equals_24 : decode cJ24_equals 24 = .ok (.iconst 0, 1) := dk_3 (dk_at dksJ24_equals_1 0 rfl rfl)
theorem dJ24_equals_25 : decode cJ24_equals 25 = .ok (.ireturn, 1) := dk_172 (dk_at dksJ24_equals_1 1 rfl rfl)
theorem dJ24_equals_26 : decode cJ24_equals 26 = .ok (.iinc 2 1, 3) := dk_132 2 1 (dk_at dksJ24_equals_1 2 rfl rfl)
theorem dJ24_equals_29 : decode cJ24_equals 29 = .ok (.goto (-20), 3) := dk_167 255 236 (dk_at dksJ24_equals_1 5 rfl rfl)
theorem dJ24_equals_32 : decode cJ24_equals 32 = .ok (.iconst 1, 1) := dk_4 (dk_at dksJ24_equals_1 8 rfl rfl)
theorem dJ24_equals_33 : decode cJ24_equals 33 = .ok (.ireturn, 1) := dk_172 (dk_at dksJ24_equals_1 9 rfl rfl)
theorem dJ24_equals_34 : decode cJ24_equals 34 = .ok (.iconst 0, 1) := dk_3 (dk_at dksJ24_equals_1 10 rfl rfl)
theorem dJ24_equals_35 : decode cJ24_equals 35 = .ok (.ireturn, 1) := dk_172 (dk_at dksJ24_equals_1 11 rfl rfl)
abbrev cJ24_compareTo : ByteArray := prog_46_method_14_code
def yJ24_compareTo : MethodName := ⟨RJ24, "compareTo", "([B[B)I"⟩
def dkwJ24_compareTo_0 : List UInt8 := [42, 190, 61, 43, 190, 62, 42, 43, 28, 29, 184, 0, 34, 172]
abbrev dktJ24_compareTo_0 : List UInt8 := dkwJ24_compareTo_0 ++ []
theorem dksJ24_compareTo_0 : cJ24_compareTo.data.toList.drop 0 = dktJ24_compareTo_0 := by decide +kernel
theorem dJ24_compareTo_0 : decode cJ24_compareTo 0 = .ok (.aload_n 0, 1) := dk_42 (dk_at dksJ24_compareTo_0 0 rfl rfl)
theorem dJ24_compareTo_1 : decode cJ24_compareTo 1 = .ok (.arraylength, 1) := dk_190 (dk_at dksJ24_compareTo_0 1 rfl rfl)
theorem dJ24_compareTo_2 : decode cJ24_compareTo 2 = .ok (.istore_n 2, 1) := dk_61 (dk_at dksJ24_compareTo_0 2 rfl rfl)
theorem dJ24_compareTo_3 : decode cJ24_compareTo 3 = .ok (.aload_n 1, 1) := dk_43 (dk_at dksJ24_compareTo_0 3 rfl rfl)
theorem dJ24_compareTo_4 : decode cJ24_compareTo 4 = .ok (.arraylength, 1) := dk_190 (dk_at dksJ24_compareTo_0 4 rfl rfl)
theorem dJ24_compareTo_5 : decode cJ24_compareTo 5 = .ok (.istore_n 3, 1) := dk_62 (dk_at dksJ24_compareTo_0 5 rfl rfl)
theorem dJ24_compareTo_6 : decode cJ24_compareTo 6 = .ok (.aload_n 0, 1) := dk_42 (dk_at dksJ24_compareTo_0 6 rfl rfl)
theorem dJ24_compareTo_7 : decode cJ24_compareTo 7 = .ok (.aload_n 1, 1) := dk_43 (dk_at dksJ24_compareTo_0 7 rfl rfl)
theorem dJ24_compareTo_8 : decode cJ24_compareTo 8 = .ok (.iload_n 2, 1) := dk_28 (dk_at dksJ24_compareTo_0 8 rfl rfl)
theorem dJ24_compareTo_9 : decode cJ24_compareTo 9 = .ok (.iload_n 3, 1) := dk_29 (dk_at dksJ24_compareTo_0 9 rfl rfl)
theorem dJ24_compareTo_10 : decode cJ24_compareTo 10 = .ok (.invokestatic 34, 3) := dk_184 0 34 (dk_at dksJ24_compareTo_0 10 rfl rfl)
theorem dJ24_compareTo_13 : decode cJ24_compareTo 13 = .ok (.ireturn, 1) := dk_172 (dk_at dksJ24_compareTo_0 13 rfl rfl)
abbrev cJ24_compareTo_2 : ByteArray := prog_46_method_15_code
def yJ24_compareTo_2 : MethodName := ⟨RJ24, "compareTo", "([B[BII)I"⟩
def dkwJ24_compareTo_2_1 : List UInt8 := [167, 0, 16, 42, 21, 5, 184, 0, 50, 43, 21, 5, 184, 0, 50, 100, 172]
abbrev dktJ24_compareTo_2_1 : List UInt8 := dkwJ24_compareTo_2_1 ++ []
def dkwJ24_compareTo_2_0 : List UInt8 := [28, 29, 184, 0, 38, 54, 4, 42, 43, 21, 4, 184, 0, 44, 54, 5, 21, 5, 156, 0, 9, 28, 29, 100]
abbrev dktJ24_compareTo_2_0 : List UInt8 := dkwJ24_compareTo_2_0 ++ dktJ24_compareTo_2_1
theorem dksJ24_compareTo_2_0 : cJ24_compareTo_2.data.toList.drop 0 = dktJ24_compareTo_2_0 := by decide +kernel
theorem dksJ24_compareTo_2_1 : cJ24_compareTo_2.data.toList.drop 24 = dktJ24_compareTo_2_1 := dk_seg dksJ24_compareTo_2_0 24 rfl rfl
theorem dJ24_compareTo_2_0 : decode cJ24_compareTo_2 0 = .ok (.iload_n 2, 1) := dk_28 (dk_at dksJ24_compareTo_2_0 0 rfl rfl)
theorem dJ24_compareTo_2_1 : decode cJ24_compareTo_2 1 = .ok (.iload_n 3, 1) := dk_29 (dk_at dksJ24_compareTo_2_0 1 rfl rfl)
theorem dJ24_compareTo_2_2 : decode cJ24_compareTo_2 2 = .ok (.invokestatic 38, 3) := dk_184 0 38 (dk_at dksJ24_compareTo_2_0 2 rfl rfl)
theorem dJ24_compareTo_2_5 : decode cJ24_compareTo_2 5 = .ok (.istore 4, 2) := dk_54 4 (dk_at dksJ24_compareTo_2_0 5 rfl rfl)
theorem dJ24_compareTo_2_7 : decode cJ24_compareTo_2 7 = .ok (.aload_n 0, 1) := dk_42 (dk_at dksJ24_compareTo_2_0 7 rfl rfl)
theorem dJ24_compareTo_2_8 : decode cJ24_compareTo_2 8 = .ok (.aload_n 1, 1) := dk_43 (dk_at dksJ24_compareTo_2_0 8 rfl rfl)
theorem dJ24_compareTo_2_9 : decode cJ24_compareTo_2 9 = .ok (.iload 4, 2) := dk_21 4 (dk_at dksJ24_compareTo_2_0 9 rfl rfl)
theorem dJ24_compareTo_2_11 : decode cJ24_compareTo_2 11 = .ok (.invokestatic 44, 3) := dk_184 0 44 (dk_at dksJ24_compareTo_2_0 11 rfl rfl)
theorem dJ24_compareTo_2_14 : decode cJ24_compareTo_2 14 = .ok (.istore 5, 2) := dk_54 5 (dk_at dksJ24_compareTo_2_0 14 rfl rfl)
theorem dJ24_compareTo_2_16 : decode cJ24_compareTo_2 16 = .ok (.iload 5, 2) := dk_21 5 (dk_at dksJ24_compareTo_2_0 16 rfl rfl)
theorem dJ24_compareTo_2_18 : decode cJ24_compareTo_2 18 = .ok (.ifCond .ge 9, 3) := dk_156 0 9 (dk_at dksJ24_compareTo_2_0 18 rfl rfl)
theorem dJ24_compareTo_2_21 : decode cJ24_compareTo_2 21 = .ok (.iload_n 2, 1) := dk_28 (dk_at dksJ24_compareTo_2_0 21 rfl rfl)
theorem dJ24_compareTo_2_22 : decode cJ24_compareTo_2 22 = .ok (.iload_n 3, 1) := dk_29 (dk_at dksJ24_compareTo_2_0 22 rfl rfl)
theorem dJ24_compareTo_2_23 : decode cJ24_compareTo_2 23 = .ok (.isub, 1) := dk_100 (dk_at dksJ24_compareTo_2_0 23 rfl rfl)
theorem dJ24_compareTo_2_24 : decode cJ24_compareTo_2 24 = .ok (.goto 16, 3) := dk_167 0 16 (dk_at dksJ24_compareTo_2_1 0 rfl rfl)
theorem dJ24_compareTo_2_27 : decode cJ24_compareTo_2 27 = .ok (.aload_n 0, 1) := dk_42 (dk_at dksJ24_compareTo_2_1 3 rfl rfl)
theorem dJ24_compareTo_2_28 : decode cJ24_compareTo_2 28 = .ok (.iload 5, 2) := dk_21 5 (dk_at dksJ24_compareTo_2_1 4 rfl rfl)
theorem dJ24_compareTo_2_30 : decode cJ24_compareTo_2 30 = .ok (.invokestatic 50, 3) := dk_184 0 50 (dk_at dksJ24_compareTo_2_1 6 rfl rfl)
theorem dJ24_compareTo_2_33 : decode cJ24_compareTo_2 33 = .ok (.aload_n 1, 1) := dk_43 (dk_at dksJ24_compareTo_2_1 9 rfl rfl)
theorem dJ24_compareTo_2_34 : decode cJ24_compareTo_2 34 = .ok (.iload 5, 2) := dk_21 5 (dk_at dksJ24_compareTo_2_1 10 rfl rfl)
theorem dJ24_compareTo_2_36 : decode cJ24_compareTo_2 36 = .ok (.invokestatic 50, 3) := dk_184 0 50 (dk_at dksJ24_compareTo_2_1 12 rfl rfl)
theorem dJ24_compareTo_2_39 : decode cJ24_compareTo_2 39 = .ok (.isub, 1) := dk_100 (dk_at dksJ24_compareTo_2_1 15 rfl rfl)
theorem dJ24_compareTo_2_40 : decode cJ24_compareTo_2 40 = .ok (.ireturn, 1) := dk_172 (dk_at dksJ24_compareTo_2_1 16 rfl rfl)
abbrev cJ24_getChar : ByteArray := prog_46_method_44_code
def yJ24_getChar : MethodName := ⟨RJ24, "getChar", "([BI)C"⟩
def dkwJ24_getChar_0 : List UInt8 := [42, 27, 51, 17, 0, 255, 126, 146, 172]
abbrev dktJ24_getChar_0 : List UInt8 := dkwJ24_getChar_0 ++ []
theorem dksJ24_getChar_0 : cJ24_getChar.data.toList.drop 0 = dktJ24_getChar_0 := by decide +kernel
theorem dJ24_getChar_0 : decode cJ24_getChar 0 = .ok (.aload_n 0, 1) := dk_42 (dk_at dksJ24_getChar_0 0 rfl rfl)
theorem dJ24_getChar_1 : decode cJ24_getChar 1 = .ok (.iload_n 1, 1) := dk_27 (dk_at dksJ24_getChar_0 1 rfl rfl)
theorem dJ24_getChar_2 : decode cJ24_getChar 2 = .ok (.baload, 1) := dk_51 (dk_at dksJ24_getChar_0 2 rfl rfl)
theorem dJ24_getChar_3 : decode cJ24_getChar 3 = .ok (.sipush 255, 3) := dk_17 0 255 (dk_at dksJ24_getChar_0 3 rfl rfl)
theorem dJ24_getChar_6 : decode cJ24_getChar 6 = .ok (.iand, 1) := dk_126 (dk_at dksJ24_getChar_0 6 rfl rfl)
theorem dJ24_getChar_7 : decode cJ24_getChar 7 = .ok (.i2c, 1) := dk_146 (dk_at dksJ24_getChar_0 7 rfl rfl)
theorem dJ24_getChar_8 : decode cJ24_getChar 8 = .ok (.ireturn, 1) := dk_172 (dk_at dksJ24_getChar_0 8 rfl rfl)
abbrev cJ24_compareToUTF16 : ByteArray := prog_46_method_16_code
def yJ24_compareToUTF16 : MethodName := ⟨RJ24, "compareToUTF16", "([B[B)I"⟩
def dkwJ24_compareToUTF16_0 : List UInt8 := [42, 184, 0, 54, 61, 43, 184, 0, 58, 62, 42, 43, 28, 29, 184, 0, 59, 172]
abbrev dktJ24_compareToUTF16_0 : List UInt8 := dkwJ24_compareToUTF16_0 ++ []
theorem dksJ24_compareToUTF16_0 : cJ24_compareToUTF16.data.toList.drop 0 = dktJ24_compareToUTF16_0 := by decide +kernel
theorem dJ24_compareToUTF16_0 : decode cJ24_compareToUTF16 0 = .ok (.aload_n 0, 1) := dk_42 (dk_at dksJ24_compareToUTF16_0 0 rfl rfl)
theorem dJ24_compareToUTF16_1 : decode cJ24_compareToUTF16 1 = .ok (.invokestatic 54, 3) := dk_184 0 54 (dk_at dksJ24_compareToUTF16_0 1 rfl rfl)
theorem dJ24_compareToUTF16_4 : decode cJ24_compareToUTF16 4 = .ok (.istore_n 2, 1) := dk_61 (dk_at dksJ24_compareToUTF16_0 4 rfl rfl)
theorem dJ24_compareToUTF16_5 : decode cJ24_compareToUTF16 5 = .ok (.aload_n 1, 1) := dk_43 (dk_at dksJ24_compareToUTF16_0 5 rfl rfl)
theorem dJ24_compareToUTF16_6 : decode cJ24_compareToUTF16 6 = .ok (.invokestatic 58, 3) := dk_184 0 58 (dk_at dksJ24_compareToUTF16_0 6 rfl rfl)
theorem dJ24_compareToUTF16_9 : decode cJ24_compareToUTF16 9 = .ok (.istore_n 3, 1) := dk_62 (dk_at dksJ24_compareToUTF16_0 9 rfl rfl)
theorem dJ24_compareToUTF16_10 : decode cJ24_compareToUTF16 10 = .ok (.aload_n 0, 1) := dk_42 (dk_at dksJ24_compareToUTF16_0 10 rfl rfl)
theorem dJ24_compareToUTF16_11 : decode cJ24_compareToUTF16 11 = .ok (.aload_n 1, 1) := dk_43 (dk_at dksJ24_compareToUTF16_0 11 rfl rfl)
theorem dJ24_compareToUTF16_12 : decode cJ24_compareToUTF16 12 = .ok (.iload_n 2, 1) := dk_28 (dk_at dksJ24_compareToUTF16_0 12 rfl rfl)
theorem dJ24_compareToUTF16_13 : decode cJ24_compareToUTF16 13 = .ok (.iload_n 3, 1) := dk_29 (dk_at dksJ24_compareToUTF16_0 13 rfl rfl)
theorem dJ24_compareToUTF16_14 : decode cJ24_compareToUTF16 14 = .ok (.invokestatic 59, 3) := dk_184 0 59 (dk_at dksJ24_compareToUTF16_0 14 rfl rfl)
theorem dJ24_compareToUTF16_17 : decode cJ24_compareToUTF16 17 = .ok (.ireturn, 1) := dk_172 (dk_at dksJ24_compareToUTF16_0 17 rfl rfl)
abbrev cJ24_length : ByteArray := prog_46_method_5_code
def yJ24_length : MethodName := ⟨RJ24, "length", "([B)I"⟩
theorem dJ24_length_0 : decode cJ24_length 0 = .ok (.aload_n 0, 1) := by decide +kernel
theorem dJ24_length_1 : decode cJ24_length 1 = .ok (.arraylength, 1) := by decide +kernel
theorem dJ24_length_2 : decode cJ24_length 2 = .ok (.ireturn, 1) := by decide +kernel
abbrev cJ24_compareToUTF16Values : ByteArray := prog_46_method_18_code
def yJ24_compareToUTF16Values : MethodName := ⟨RJ24, "compareToUTF16Values", "([B[BII)I"⟩
def dkwJ24_compareToUTF16Values_2 : List UInt8 := [132, 5, 1, 167, 255, 217, 28, 29, 100, 172]
abbrev dktJ24_compareToUTF16Values_2 : List UInt8 := dkwJ24_compareToUTF16Values_2 ++ []
def dkwJ24_compareToUTF16Values_1 : List UInt8 := [54, 6, 43, 21, 5, 184, 0, 65, 54, 7, 21, 6, 21, 7, 159, 0, 9, 21, 6, 21, 7, 100, 172]
abbrev dktJ24_compareToUTF16Values_1 : List UInt8 := dkwJ24_compareToUTF16Values_1 ++ dktJ24_compareToUTF16Values_2
def dkwJ24_compareToUTF16Values_0 : List UInt8 := [28, 29, 184, 0, 38, 54, 4, 3, 54, 5, 21, 5, 21, 4, 162, 0, 38, 42, 21, 5, 184, 0, 50]
abbrev dktJ24_compareToUTF16Values_0 : List UInt8 := dkwJ24_compareToUTF16Values_0 ++ dktJ24_compareToUTF16Values_1
theorem dksJ24_compareToUTF16Values_0 : cJ24_compareToUTF16Values.data.toList.drop 0 = dktJ24_compareToUTF16Values_0 := by decide +kernel
theorem dksJ24_compareToUTF16Values_1 : cJ24_compareToUTF16Values.data.toList.drop 23 = dktJ24_compareToUTF16Values_1 := dk_seg dksJ24_compareToUTF16Values_0 23 rfl rfl
theorem dksJ24_compareToUTF16Values_2 : cJ24_compareToUTF16Values.data.toList.drop 46 = dktJ24_compareToUTF16Values_2 := dk_seg dksJ24_compareToUTF16Values_1 23 rfl rfl
theorem dJ24_compareToUTF16Values_0 : decode cJ24_compareToUTF16Values 0 = .ok (.iload_n 2, 1) := dk_28 (dk_at dksJ24_compareToUTF16Values_0 0 rfl rfl)
theorem dJ24_compareToUTF16Values_1 : decode cJ24_compareToUTF16Values 1 = .ok (.iload_n 3, 1) := dk_29 (dk_at dksJ24_compareToUTF16Values_0 1 rfl rfl)
theorem dJ24_compareToUTF16Values_2 : decode cJ24_compareToUTF16Values 2 = .ok (.invokestatic 38, 3) := dk_184 0 38 (dk_at dksJ24_compareToUTF16Values_0 2 rfl rfl)
theorem dJ24_compareToUTF16Values_5 : decode cJ24_compareToUTF16Values 5 = .ok (.istore 4, 2) := dk_54 4 (dk_at dksJ24_compareToUTF16Values_0 5 rfl rfl)
theorem dJ24_compareToUTF16Values_7 : decode cJ24_compareToUTF16Values 7 = .ok (.iconst 0, 1) := dk_3 (dk_at dksJ24_compareToUTF16Values_0 7 rfl rfl)
theorem dJ24_compareToUTF16Values_8 : decode cJ24_compareToUTF16Values 8 = .ok (.istore 5, 2) := dk_54 5 (dk_at dksJ24_compareToUTF16Values_0 8 rfl rfl)
theorem dJ24_compareToUTF16Values_10 : decode cJ24_compareToUTF16Values 10 = .ok (.iload 5, 2) := dk_21 5 (dk_at dksJ24_compareToUTF16Values_0 10 rfl rfl)
theorem dJ24_compareToUTF16Values_12 : decode cJ24_compareToUTF16Values 12 = .ok (.iload 4, 2) := dk_21 4 (dk_at dksJ24_compareToUTF16Values_0 12 rfl rfl)
theorem dJ24_compareToUTF16Values_14 : decode cJ24_compareToUTF16Values 14 = .ok (.if_icmp .ge 38, 3) := dk_162 0 38 (dk_at dksJ24_compareToUTF16Values_0 14 rfl rfl)
theorem dJ24_compareToUTF16Values_17 : decode cJ24_compareToUTF16Values 17 = .ok (.aload_n 0, 1) := dk_42 (dk_at dksJ24_compareToUTF16Values_0 17 rfl rfl)
theorem dJ24_compareToUTF16Values_18 : decode cJ24_compareToUTF16Values 18 = .ok (.iload 5, 2) := dk_21 5 (dk_at dksJ24_compareToUTF16Values_0 18 rfl rfl)
theorem dJ24_compareToUTF16Values_20 : decode cJ24_compareToUTF16Values 20 = .ok (.invokestatic 50, 3) := dk_184 0 50 (dk_at dksJ24_compareToUTF16Values_0 20 rfl rfl)
theorem dJ24_compareToUTF16Values_23 : decode cJ24_compareToUTF16Values 23 = .ok (.istore 6, 2) := dk_54 6 (dk_at dksJ24_compareToUTF16Values_1 0 rfl rfl)
theorem dJ24_compareToUTF16Values_25 : decode cJ24_compareToUTF16Values 25 = .ok (.aload_n 1, 1) := dk_43 (dk_at dksJ24_compareToUTF16Values_1 2 rfl rfl)
theorem dJ24_compareToUTF16Values_26 : decode cJ24_compareToUTF16Values 26 = .ok (.iload 5, 2) := dk_21 5 (dk_at dksJ24_compareToUTF16Values_1 3 rfl rfl)
theorem dJ24_compareToUTF16Values_28 : decode cJ24_compareToUTF16Values 28 = .ok (.invokestatic 65, 3) := dk_184 0 65 (dk_at dksJ24_compareToUTF16Values_1 5 rfl rfl)
theorem dJ24_compareToUTF16Values_31 : decode cJ24_compareToUTF16Values 31 = .ok (.istore 7, 2) := dk_54 7 (dk_at dksJ24_compareToUTF16Values_1 8 rfl rfl)
theorem dJ24_compareToUTF16Values_33 : decode cJ24_compareToUTF16Values 33 = .ok (.iload 6, 2) := dk_21 6 (dk_at dksJ24_compareToUTF16Values_1 10 rfl rfl)
theorem dJ24_compareToUTF16Values_35 : decode cJ24_compareToUTF16Values 35 = .ok (.iload 7, 2) := dk_21 7 (dk_at dksJ24_compareToUTF16Values_1 12 rfl rfl)
theorem dJ24_compareToUTF16Values_37 : decode cJ24_compareToUTF16Values 37 = .ok (.if_icmp .eq 9, 3) := dk_159 0 9 (dk_at dksJ24_compareToUTF16Values_1 14 rfl rfl)
theorem dJ24_compareToUTF16Values_40 : decode cJ24_compareToUTF16Values 40 = .ok (.iload 6, 2) := dk_21 6 (dk_at dksJ24_compareToUTF16Values_1 17 rfl rfl)
theorem dJ24_compareToUTF16Values_42 : decode cJ24_compareToUTF16Values 42 = .ok (.iload 7, 2) := dk_21 7 (dk_at dksJ24_compareToUTF16Values_1 19 rfl rfl)
theorem dJ24_compareToUTF16Values_44 : decode cJ24_compareToUTF16Values 44 = .ok (.isub, 1) := dk_100 (dk_at dksJ24_compareToUTF16Values_1 21 rfl rfl)
theorem dJ24_compareToUTF16Values_45 : decode cJ24_compareToUTF16Values 45 = .ok (.ireturn, 1) := dk_172 (dk_at dksJ24_compareToUTF16Values_1 22 rfl rfl)
theorem dJ24_compareToUTF16Values_46 : decode cJ24_compareToUTF16Values 46 = .ok (.iinc 5 1, 3) := dk_132 5 1 (dk_at dksJ24_compareToUTF16Values_2 0 rfl rfl)
theorem dJ24_compareToUTF16Values_49 : decode cJ24_compareToUTF16Values 49 = .ok (.goto (-39), 3) := dk_167 255 217 (dk_at dksJ24_compareToUTF16Values_2 3 rfl rfl)
theorem dJ24_compareToUTF16Values_52 : decode cJ24_compareToUTF16Values 52 = .ok (.iload_n 2, 1) := dk_28 (dk_at dksJ24_compareToUTF16Values_2 6 rfl rfl)
theorem dJ24_compareToUTF16Values_53 : decode cJ24_compareToUTF16Values 53 = .ok (.iload_n 3, 1) := dk_29 (dk_at dksJ24_compareToUTF16Values_2 7 rfl rfl)
theorem dJ24_compareToUTF16Values_54 : decode cJ24_compareToUTF16Values 54 = .ok (.isub, 1) := dk_100 (dk_at dksJ24_compareToUTF16Values_2 8 rfl rfl)
theorem dJ24_compareToUTF16Values_55 : decode cJ24_compareToUTF16Values 55 = .ok (.ireturn, 1) := dk_172 (dk_at dksJ24_compareToUTF16Values_2 9 rfl rfl)
abbrev cJ24_compareToUTF16_2 : ByteArray := prog_46_method_17_code
def yJ24_compareToUTF16_2 : MethodName := ⟨RJ24, "compareToUTF16", "([B[BII)I"⟩
def dkwJ24_compareToUTF16_2_0 : List UInt8 := [28, 42, 184, 0, 54, 184, 0, 62, 29, 43, 184, 0, 58, 184, 0, 62, 42, 43, 28, 29, 184, 0, 59, 172]
abbrev dktJ24_compareToUTF16_2_0 : List UInt8 := dkwJ24_compareToUTF16_2_0 ++ []
theorem dksJ24_compareToUTF16_2_0 : cJ24_compareToUTF16_2.data.toList.drop 0 = dktJ24_compareToUTF16_2_0 := by decide +kernel
theorem dJ24_compareToUTF16_2_0 : decode cJ24_compareToUTF16_2 0 = .ok (.iload_n 2, 1) := dk_28 (dk_at dksJ24_compareToUTF16_2_0 0 rfl rfl)
theorem dJ24_compareToUTF16_2_1 : decode cJ24_compareToUTF16_2 1 = .ok (.aload_n 0, 1) := dk_42 (dk_at dksJ24_compareToUTF16_2_0 1 rfl rfl)
theorem dJ24_compareToUTF16_2_2 : decode cJ24_compareToUTF16_2 2 = .ok (.invokestatic 54, 3) := dk_184 0 54 (dk_at dksJ24_compareToUTF16_2_0 2 rfl rfl)
theorem dJ24_compareToUTF16_2_5 : decode cJ24_compareToUTF16_2 5 = .ok (.invokestatic 62, 3) := dk_184 0 62 (dk_at dksJ24_compareToUTF16_2_0 5 rfl rfl)
theorem dJ24_compareToUTF16_2_8 : decode cJ24_compareToUTF16_2 8 = .ok (.iload_n 3, 1) := dk_29 (dk_at dksJ24_compareToUTF16_2_0 8 rfl rfl)
theorem dJ24_compareToUTF16_2_9 : decode cJ24_compareToUTF16_2 9 = .ok (.aload_n 1, 1) := dk_43 (dk_at dksJ24_compareToUTF16_2_0 9 rfl rfl)
theorem dJ24_compareToUTF16_2_10 : decode cJ24_compareToUTF16_2 10 = .ok (.invokestatic 58, 3) := dk_184 0 58 (dk_at dksJ24_compareToUTF16_2_0 10 rfl rfl)
theorem dJ24_compareToUTF16_2_13 : decode cJ24_compareToUTF16_2 13 = .ok (.invokestatic 62, 3) := dk_184 0 62 (dk_at dksJ24_compareToUTF16_2_0 13 rfl rfl)
theorem dJ24_compareToUTF16_2_16 : decode cJ24_compareToUTF16_2 16 = .ok (.aload_n 0, 1) := dk_42 (dk_at dksJ24_compareToUTF16_2_0 16 rfl rfl)
theorem dJ24_compareToUTF16_2_17 : decode cJ24_compareToUTF16_2 17 = .ok (.aload_n 1, 1) := dk_43 (dk_at dksJ24_compareToUTF16_2_0 17 rfl rfl)
theorem dJ24_compareToUTF16_2_18 : decode cJ24_compareToUTF16_2 18 = .ok (.iload_n 2, 1) := dk_28 (dk_at dksJ24_compareToUTF16_2_0 18 rfl rfl)
theorem dJ24_compareToUTF16_2_19 : decode cJ24_compareToUTF16_2 19 = .ok (.iload_n 3, 1) := dk_29 (dk_at dksJ24_compareToUTF16_2_0 19 rfl rfl)
theorem dJ24_compareToUTF16_2_20 : decode cJ24_compareToUTF16_2 20 = .ok (.invokestatic 59, 3) := dk_184 0 59 (dk_at dksJ24_compareToUTF16_2_0 20 rfl rfl)
theorem dJ24_compareToUTF16_2_23 : decode cJ24_compareToUTF16_2 23 = .ok (.ireturn, 1) := dk_172 (dk_at dksJ24_compareToUTF16_2_0 23 rfl rfl)
abbrev cJ24_indexOf : ByteArray := prog_46_method_22_code
def yJ24_indexOf : MethodName := ⟨RJ24, "indexOf", "([BIII)I"⟩
def dkwJ24_indexOf_1 : List UInt8 := [161, 0, 5, 2, 172, 42, 27, 28, 29, 184, 0, 95, 172]
abbrev dktJ24_indexOf_1 : List UInt8 := dkwJ24_indexOf_1 ++ []
def dkwJ24_indexOf_0 : List UInt8 := [27, 184, 0, 88, 154, 0, 5, 2, 172, 28, 3, 184, 0, 92, 61, 29, 42, 190, 184, 0, 38, 62, 28, 29]
abbrev dktJ24_indexOf_0 : List UInt8 := dkwJ24_indexOf_0 ++ dktJ24_indexOf_1
theorem dksJ24_indexOf_0 : cJ24_indexOf.data.toList.drop 0 = dktJ24_indexOf_0 := by decide +kernel
theorem dksJ24_indexOf_1 : cJ24_indexOf.data.toList.drop 24 = dktJ24_indexOf_1 := dk_seg dksJ24_indexOf_0 24 rfl rfl
theorem dJ24_indexOf_0 : decode cJ24_indexOf 0 = .ok (.iload_n 1, 1) := dk_27 (dk_at dksJ24_indexOf_0 0 rfl rfl)
theorem dJ24_indexOf_1 : decode cJ24_indexOf 1 = .ok (.invokestatic 88, 3) := dk_184 0 88 (dk_at dksJ24_indexOf_0 1 rfl rfl)
theorem dJ24_indexOf_4 : decode cJ24_indexOf 4 = .ok (.ifCond .ne 5, 3) := dk_154 0 5 (dk_at dksJ24_indexOf_0 4 rfl rfl)
theorem dJ24_indexOf_7 : decode cJ24_indexOf 7 = .ok (.iconst (-1), 1) := dk_2 (dk_at dksJ24_indexOf_0 7 rfl rfl)
theorem dJ24_indexOf_8 : decode cJ24_indexOf 8 = .ok (.ireturn, 1) := dk_172 (dk_at dksJ24_indexOf_0 8 rfl rfl)
theorem dJ24_indexOf_9 : decode cJ24_indexOf 9 = .ok (.iload_n 2, 1) := dk_28 (dk_at dksJ24_indexOf_0 9 rfl rfl)
theorem dJ24_indexOf_10 : decode cJ24_indexOf 10 = .ok (.iconst 0, 1) := dk_3 (dk_at dksJ24_indexOf_0 10 rfl rfl)
theorem dJ24_indexOf_11 : decode cJ24_indexOf 11 = .ok (.invokestatic 92, 3) := dk_184 0 92 (dk_at dksJ24_indexOf_0 11 rfl rfl)
theorem dJ24_indexOf_14 : decode cJ24_indexOf 14 = .ok (.istore_n 2, 1) := dk_61 (dk_at dksJ24_indexOf_0 14 rfl rfl)
theorem dJ24_indexOf_15 : decode cJ24_indexOf 15 = .ok (.iload_n 3, 1) := dk_29 (dk_at dksJ24_indexOf_0 15 rfl rfl)
theorem dJ24_indexOf_16 : decode cJ24_indexOf 16 = .ok (.aload_n 0, 1) := dk_42 (dk_at dksJ24_indexOf_0 16 rfl rfl)
theorem dJ24_indexOf_17 : decode cJ24_indexOf 17 = .ok (.arraylength, 1) := dk_190 (dk_at dksJ24_indexOf_0 17 rfl rfl)
theorem dJ24_indexOf_18 : decode cJ24_indexOf 18 = .ok (.invokestatic 38, 3) := dk_184 0 38 (dk_at dksJ24_indexOf_0 18 rfl rfl)
theorem dJ24_indexOf_21 : decode cJ24_indexOf 21 = .ok (.istore_n 3, 1) := dk_62 (dk_at dksJ24_indexOf_0 21 rfl rfl)
theorem dJ24_indexOf_22 : decode cJ24_indexOf 22 = .ok (.iload_n 2, 1) := dk_28 (dk_at dksJ24_indexOf_0 22 rfl rfl)
theorem dJ24_indexOf_23 : decode cJ24_indexOf 23 = .ok (.iload_n 3, 1) := dk_29 (dk_at dksJ24_indexOf_0 23 rfl rfl)
theorem dJ24_indexOf_24 : decode cJ24_indexOf 24 = .ok (.if_icmp .lt 5, 3) := dk_161 0 5 (dk_at dksJ24_indexOf_1 0 rfl rfl)
theorem dJ24_indexOf_27 : decode cJ24_indexOf 27 = .ok (.iconst (-1), 1) := dk_2 (dk_at dksJ24_indexOf_1 3 rfl rfl)
theorem dJ24_indexOf_28 : decode cJ24_indexOf 28 = .ok (.ireturn, 1) := dk_172 (dk_at dksJ24_indexOf_1 4 rfl rfl)
theorem dJ24_indexOf_29 : decode cJ24_indexOf 29 = .ok (.aload_n 0, 1) := dk_42 (dk_at dksJ24_indexOf_1 5 rfl rfl)
theorem dJ24_indexOf_30 : decode cJ24_indexOf 30 = .ok (.iload_n 1, 1) := dk_27 (dk_at dksJ24_indexOf_1 6 rfl rfl)
theorem dJ24_indexOf_31 : decode cJ24_indexOf 31 = .ok (.iload_n 2, 1) := dk_28 (dk_at dksJ24_indexOf_1 7 rfl rfl)
theorem dJ24_indexOf_32 : decode cJ24_indexOf 32 = .ok (.iload_n 3, 1) := dk_29 (dk_at dksJ24_indexOf_1 8 rfl rfl)
theorem dJ24_indexOf_33 : decode cJ24_indexOf 33 = .ok (.invokestatic 95, 3) := dk_184 0 95 (dk_at dksJ24_indexOf_1 9 rfl rfl)
theorem dJ24_indexOf_36 : decode cJ24_indexOf 36 = .ok (.ireturn, 1) := dk_172 (dk_at dksJ24_indexOf_1 12 rfl rfl)
abbrev cJ24_canEncode : ByteArray := prog_46_method_4_code
def yJ24_canEncode : MethodName := ⟨RJ24, "canEncode", "(I)Z"⟩
def dkwJ24_canEncode_0 : List UInt8 := [26, 155, 0, 14, 26, 17, 0, 255, 163, 0, 7, 4, 167, 0, 4, 3, 172]
abbrev dktJ24_canEncode_0 : List UInt8 := dkwJ24_canEncode_0 ++ []
theorem dksJ24_canEncode_0 : cJ24_canEncode.data.toList.drop 0 = dktJ24_canEncode_0 := by decide +kernel
theorem dJ24_canEncode_0 : decode cJ24_canEncode 0 = .ok (.iload_n 0, 1) := dk_26 (dk_at dksJ24_canEncode_0 0 rfl rfl)
theorem dJ24_canEncode_1 : decode cJ24_canEncode 1 = .ok (.ifCond .lt 14, 3) := dk_155 0 14 (dk_at dksJ24_canEncode_0 1 rfl rfl)
theorem dJ24_canEncode_4 : decode cJ24_canEncode 4 = .ok (.iload_n 0, 1) := dk_26 (dk_at dksJ24_canEncode_0 4 rfl rfl)
theorem dJ24_canEncode_5 : decode cJ24_canEncode 5 = .ok (.sipush 255, 3) := dk_17 0 255 (dk_at dksJ24_canEncode_0 5 rfl rfl)
theorem dJ24_canEncode_8 : decode cJ24_canEncode 8 = .ok (.if_icmp .gt 7, 3) := dk_163 0 7 (dk_at dksJ24_canEncode_0 8 rfl rfl)
theorem dJ24_canEncode_11 : decode cJ24_canEncode 11 = .ok (.iconst 1, 1) := dk_4 (dk_at dksJ24_canEncode_0 11 rfl rfl)
theorem dJ24_canEncode_12 : decode cJ24_canEncode 12 = .ok (.goto 4, 3) := dk_167 0 4 (dk_at dksJ24_canEncode_0 12 rfl rfl)
theorem dJ24_canEncode_15 : decode cJ24_canEncode 15 = .ok (.iconst 0, 1) := dk_3 (dk_at dksJ24_canEncode_0 15 rfl rfl)
theorem dJ24_canEncode_16 : decode cJ24_canEncode 16 = .ok (.ireturn, 1) := dk_172 (dk_at dksJ24_canEncode_0 16 rfl rfl)
abbrev cJ24_indexOfChar : ByteArray := prog_46_method_23_code
def yJ24_indexOfChar : MethodName := ⟨RJ24, "indexOfChar", "([BIII)I"⟩
def dkwJ24_indexOfChar_1 : List UInt8 := [172, 132, 5, 1, 167, 255, 235, 2, 172]
abbrev dktJ24_indexOfChar_1 : List UInt8 := dkwJ24_indexOfChar_1 ++ []
def dkwJ24_indexOfChar_0 : List UInt8 := [27, 145, 54, 4, 28, 54, 5, 21, 5, 29, 162, 0, 21, 42, 21, 5, 51, 21, 4, 160, 0, 6, 21, 5]
abbrev dktJ24_indexOfChar_0 : List UInt8 := dkwJ24_indexOfChar_0 ++ dktJ24_indexOfChar_1
theorem dksJ24_indexOfChar_0 : cJ24_indexOfChar.data.toList.drop 0 = dktJ24_indexOfChar_0 := by decide +kernel
theorem dksJ24_indexOfChar_1 : cJ24_indexOfChar.data.toList.drop 24 = dktJ24_indexOfChar_1 := dk_seg dksJ24_indexOfChar_0 24 rfl rfl
theorem dJ24_indexOfChar_0 : decode cJ24_indexOfChar 0 = .ok (.iload_n 1, 1) := dk_27 (dk_at dksJ24_indexOfChar_0 0 rfl rfl)
theorem dJ24_indexOfChar_1 : decode cJ24_indexOfChar 1 = .ok (.i2b, 1) := dk_145 (dk_at dksJ24_indexOfChar_0 1 rfl rfl)
theorem dJ24_indexOfChar_2 : decode cJ24_indexOfChar 2 = .ok (.istore 4, 2) := dk_54 4 (dk_at dksJ24_indexOfChar_0 2 rfl rfl)
theorem dJ24_indexOfChar_4 : decode cJ24_indexOfChar 4 = .ok (.iload_n 2, 1) := dk_28 (dk_at dksJ24_indexOfChar_0 4 rfl rfl)
theorem dJ24_indexOfChar_5 : decode cJ24_indexOfChar 5 = .ok (.istore 5, 2) := dk_54 5 (dk_at dksJ24_indexOfChar_0 5 rfl rfl)
theorem dJ24_indexOfChar_7 : decode cJ24_indexOfChar 7 = .ok (.iload 5, 2) := dk_21 5 (dk_at dksJ24_indexOfChar_0 7 rfl rfl)
theorem dJ24_indexOfChar_9 : decode cJ24_indexOfChar 9 = .ok (.iload_n 3, 1) := dk_29 (dk_at dksJ24_indexOfChar_0 9 rfl rfl)
theorem dJ24_indexOfChar_10 : decode cJ24_indexOfChar 10 = .ok (.if_icmp .ge 21, 3) := dk_162 0 21 (dk_at dksJ24_indexOfChar_0 10 rfl rfl)
theorem dJ24_indexOfChar_13 : decode cJ24_indexOfChar 13 = .ok (.aload_n 0, 1) := dk_42 (dk_at dksJ24_indexOfChar_0 13 rfl rfl)
theorem dJ24_indexOfChar_14 : decode cJ24_indexOfChar 14 = .ok (.iload 5, 2) := dk_21 5 (dk_at dksJ24_indexOfChar_0 14 rfl rfl)
theorem dJ24_indexOfChar_16 : decode cJ24_indexOfChar 16 = .ok (.baload, 1) := dk_51 (dk_at dksJ24_indexOfChar_0 16 rfl rfl)
theorem dJ24_indexOfChar_17 : decode cJ24_indexOfChar 17 = .ok (.iload 4, 2) := dk_21 4 (dk_at dksJ24_indexOfChar_0 17 rfl rfl)
theorem dJ24_indexOfChar_19 : decode cJ24_indexOfChar 19 = .ok (.if_icmp .ne 6, 3) := dk_160 0 6 (dk_at dksJ24_indexOfChar_0 19 rfl rfl)
theorem dJ24_indexOfChar_22 : decode cJ24_indexOfChar 22 = .ok (.iload 5, 2) := dk_21 5 (dk_at dksJ24_indexOfChar_0 22 rfl rfl)
theorem dJ24_indexOfChar_24 : decode cJ24_indexOfChar 24 = .ok (.ireturn, 1) := dk_172 (dk_at dksJ24_indexOfChar_1 0 rfl rfl)
theorem dJ24_indexOfChar_25 : decode cJ24_indexOfChar 25 = .ok (.iinc 5 1, 3) := dk_132 5 1 (dk_at dksJ24_indexOfChar_1 1 rfl rfl)
theorem dJ24_indexOfChar_28 : decode cJ24_indexOfChar 28 = .ok (.goto (-21), 3) := dk_167 255 235 (dk_at dksJ24_indexOfChar_1 4 rfl rfl)
theorem dJ24_indexOfChar_31 : decode cJ24_indexOfChar 31 = .ok (.iconst (-1), 1) := dk_2 (dk_at dksJ24_indexOfChar_1 7 rfl rfl)
theorem dJ24_indexOfChar_32 : decode cJ24_indexOfChar 32 = .ok (.ireturn, 1) := dk_172 (dk_at dksJ24_indexOfChar_1 8 rfl rfl)
theorem q109 : (Jvm.Cond.initialized "java/lang/StringLatin1") ∈ lw_all := lw_g (lw_at lw_m1 33 rfl) rfl
theorem q518 : (Jvm.Cond.static ({ cls := "java/lang/StringLatin1", name := "inflate", desc := "([BI[BII)V" } : Jvm.MethodName)) ∈ lw_all := lw_g (lw_at lw_m2 202 rfl) rfl
theorem q519 : (Jvm.Cond.code ({ cls := "java/lang/StringLatin1", name := "inflate", desc := "([BI[BII)V" } : Jvm.MethodName) prog_46_method_50_code (5 : Nat) (Option.none : Option Jvm.ClassFile.FieldType)) ∈ lw_all := lw_g (lw_at lw_m2 203 rfl) rfl
theorem q520 : (Jvm.Cond.methodLink "java/lang/StringLatin1" (240 : Nat) ({ cls := "java/lang/StringUTF16", name := "inflate", desc := "([BI[BII)V" } : Jvm.MethodName)) ∈ lw_all := lw_g (lw_at lw_m2 204 rfl) rfl
theorem q1305 : (Jvm.Cond.static ({ cls := "java/lang/StringLatin1", name := "hashCode", desc := "([B)I" } : Jvm.MethodName)) ∈ lw_all := lw_g (lw_at lw_m6 29 rfl) rfl
theorem q1306 : (Jvm.Cond.code ({ cls := "java/lang/StringLatin1", name := "hashCode", desc := "([B)I" } : Jvm.MethodName) prog_46_method_21_code (1 : Nat) (Option.some Jvm.ClassFile.FieldType.int)) ∈ lw_all := lw_g (lw_at lw_m6 30 rfl) rfl
theorem q1307 : (Jvm.Cond.methodLink "java/lang/StringLatin1" (84 : Nat) ({ cls := "jdk/internal/util/ArraysSupport", name := "vectorizedHashCode", desc := "(Ljava/lang/Object;IIII)I" } : Jvm.MethodName)) ∈ lw_all := lw_g (lw_at lw_m6 31 rfl) rfl
theorem q1401 : (Jvm.Cond.static ({ cls := "java/lang/StringLatin1", name := "equals", desc := "([B[B)Z" } : Jvm.MethodName)) ∈ lw_all := lw_g (lw_at lw_m6 125 rfl) rfl
theorem q1402 : (Jvm.Cond.code ({ cls := "java/lang/StringLatin1", name := "equals", desc := "([B[B)Z" } : Jvm.MethodName) prog_46_method_13_code (3 : Nat) (Option.some Jvm.ClassFile.FieldType.boolean)) ∈ lw_all := lw_g (lw_at lw_m6 126 rfl) rfl
theorem q1459 : (Jvm.Cond.static ({ cls := "java/lang/StringLatin1", name := "compareTo", desc := "([B[B)I" } : Jvm.MethodName)) ∈ lw_all := lw_g (lw_at lw_m6 183 rfl) rfl
theorem q1460 : (Jvm.Cond.code ({ cls := "java/lang/StringLatin1", name := "compareTo", desc := "([B[B)I" } : Jvm.MethodName) prog_46_method_14_code (4 : Nat) (Option.some Jvm.ClassFile.FieldType.int)) ∈ lw_all := lw_g (lw_at lw_m6 184 rfl) rfl
theorem q1461 : (Jvm.Cond.methodLink "java/lang/StringLatin1" (34 : Nat) ({ cls := "java/lang/StringLatin1", name := "compareTo", desc := "([B[BII)I" } : Jvm.MethodName)) ∈ lw_all := lw_g (lw_at lw_m6 185 rfl) rfl
theorem q1462 : (Jvm.Cond.static ({ cls := "java/lang/StringLatin1", name := "compareTo", desc := "([B[BII)I" } : Jvm.MethodName)) ∈ lw_all := lw_g (lw_at lw_m6 186 rfl) rfl
theorem q1463 : (Jvm.Cond.code ({ cls := "java/lang/StringLatin1", name := "compareTo", desc := "([B[BII)I" } : Jvm.MethodName) prog_46_method_15_code (6 : Nat) (Option.some Jvm.ClassFile.FieldType.int)) ∈ lw_all := lw_g (lw_at lw_m6 187 rfl) rfl
theorem q1464 : (Jvm.Cond.methodLink "java/lang/StringLatin1" (38 : Nat) ({ cls := "java/lang/Math", name := "min", desc := "(II)I" } : Jvm.MethodName)) ∈ lw_all := lw_g (lw_at lw_m6 188 rfl) rfl
theorem q1465 : (Jvm.Cond.methodLink "java/lang/StringLatin1" (44 : Nat) ({ cls := "jdk/internal/util/ArraysSupport", name := "mismatch", desc := "([B[BI)I" } : Jvm.MethodName)) ∈ lw_all := lw_g (lw_at lw_m6 189 rfl) rfl
theorem q1563 : (Jvm.Cond.methodLink "java/lang/StringLatin1" (50 : Nat) ({ cls := "java/lang/StringLatin1", name := "getChar", desc := "([BI)C" } : Jvm.MethodName)) ∈ lw_all := lw_g (lw_at lw_m7 47 rfl) rfl
theorem q1564 : (Jvm.Cond.static ({ cls := "java/lang/StringLatin1", name := "getChar", desc := "([BI)C" } : Jvm.MethodName)) ∈ lw_all := lw_g (lw_at lw_m7 48 rfl) rfl
theorem q1565 : (Jvm.Cond.code ({ cls := "java/lang/StringLatin1", name := "getChar", desc := "([BI)C" } : Jvm.MethodName) prog_46_method_44_code (2 : Nat) (Option.some Jvm.ClassFile.FieldType.char)) ∈ lw_all := lw_g (lw_at lw_m7 49 rfl) rfl
theorem q1574 : (Jvm.Cond.static ({ cls := "java/lang/StringLatin1", name := "compareToUTF16", desc := "([B[B)I" } : Jvm.MethodName)) ∈ lw_all := lw_g (lw_at lw_m7 58 rfl) rfl
theorem q1575 : (Jvm.Cond.code ({ cls := "java/lang/StringLatin1", name := "compareToUTF16", desc := "([B[B)I" } : Jvm.MethodName) prog_46_method_16_code (4 : Nat) (Option.some Jvm.ClassFile.FieldType.int)) ∈ lw_all := lw_g (lw_at lw_m7 59 rfl) rfl
theorem q1576 : (Jvm.Cond.methodLink "java/lang/StringLatin1" (54 : Nat) ({ cls := "java/lang/StringLatin1", name := "length", desc := "([B)I" } : Jvm.MethodName)) ∈ lw_all := lw_g (lw_at lw_m7 60 rfl) rfl
theorem q1577 : (Jvm.Cond.static ({ cls := "java/lang/StringLatin1", name := "length", desc := "([B)I" } : Jvm.MethodName)) ∈ lw_all := lw_g (lw_at lw_m7 61 rfl) rfl
theorem q1578 : (Jvm.Cond.code ({ cls := "java/lang/StringLatin1", name := "length", desc := "([B)I" } : Jvm.MethodName) prog_46_method_5_code (1 : Nat) (Option.some Jvm.ClassFile.FieldType.int)) ∈ lw_all := lw_g (lw_at lw_m7 62 rfl) rfl
theorem q1579 : (Jvm.Cond.methodLink "java/lang/StringLatin1" (58 : Nat) ({ cls := "java/lang/StringUTF16", name := "length", desc := "([B)I" } : Jvm.MethodName)) ∈ lw_all := lw_g (lw_at lw_m7 63 rfl) rfl
theorem q1580 : (Jvm.Cond.methodLink "java/lang/StringLatin1" (59 : Nat) ({ cls := "java/lang/StringLatin1", name := "compareToUTF16Values", desc := "([B[BII)I" } : Jvm.MethodName)) ∈ lw_all := lw_g (lw_at lw_m7 64 rfl) rfl
theorem q1581 : (Jvm.Cond.static ({ cls := "java/lang/StringLatin1", name := "compareToUTF16Values", desc := "([B[BII)I" } : Jvm.MethodName)) ∈ lw_all := lw_g (lw_at lw_m7 65 rfl) rfl
theorem q1582 : (Jvm.Cond.code ({ cls := "java/lang/StringLatin1", name := "compareToUTF16Values", desc := "([B[BII)I" } : Jvm.MethodName) prog_46_method_18_code (8 : Nat) (Option.some Jvm.ClassFile.FieldType.int)) ∈ lw_all := lw_g (lw_at lw_m7 66 rfl) rfl
theorem q1583 : (Jvm.Cond.methodLink "java/lang/StringLatin1" (65 : Nat) ({ cls := "java/lang/StringUTF16", name := "getChar", desc := "([BI)C" } : Jvm.MethodName)) ∈ lw_all := lw_g (lw_at lw_m7 67 rfl) rfl
theorem q1613 : (Jvm.Cond.static ({ cls := "java/lang/StringLatin1", name := "compareToUTF16", desc := "([B[BII)I" } : Jvm.MethodName)) ∈ lw_all := lw_g (lw_at lw_m7 97 rfl) rfl
theorem q1614 : (Jvm.Cond.code ({ cls := "java/lang/StringLatin1", name := "compareToUTF16", desc := "([B[BII)I" } : Jvm.MethodName) prog_46_method_17_code (4 : Nat) (Option.some Jvm.ClassFile.FieldType.int)) ∈ lw_all := lw_g (lw_at lw_m7 98 rfl) rfl
theorem q1615 : (Jvm.Cond.methodLink "java/lang/StringLatin1" (62 : Nat) ({ cls := "java/lang/String", name := "checkOffset", desc := "(II)V" } : Jvm.MethodName)) ∈ lw_all := lw_g (lw_at lw_m7 99 rfl) rfl
theorem q2930 : (Jvm.Cond.static ({ cls := "java/lang/StringLatin1", name := "indexOf", desc := "([BIII)I" } : Jvm.MethodName)) ∈ lw_all := lw_g (lw_at lw_m12 214 rfl) rfl
theorem q2931 : (Jvm.Cond.code ({ cls := "java/lang/StringLatin1", name := "indexOf", desc := "([BIII)I" } : Jvm.MethodName) prog_46_method_22_code (4 : Nat) (Option.some Jvm.ClassFile.FieldType.int)) ∈ lw_all := lw_g (lw_at lw_m12 215 rfl) rfl
theorem q2932 : (Jvm.Cond.methodLink "java/lang/StringLatin1" (88 : Nat) ({ cls := "java/lang/StringLatin1", name := "canEncode", desc := "(I)Z" } : Jvm.MethodName)) ∈ lw_all := lw_g (lw_at lw_m12 216 rfl) rfl
theorem q2933 : (Jvm.Cond.static ({ cls := "java/lang/StringLatin1", name := "canEncode", desc := "(I)Z" } : Jvm.MethodName)) ∈ lw_all := lw_g (lw_at lw_m12 217 rfl) rfl
theorem q2934 : (Jvm.Cond.code ({ cls := "java/lang/StringLatin1", name := "canEncode", desc := "(I)Z" } : Jvm.MethodName) prog_46_method_4_code (1 : Nat) (Option.some Jvm.ClassFile.FieldType.boolean)) ∈ lw_all := lw_g (lw_at lw_m12 218 rfl) rfl
theorem q2935 : (Jvm.Cond.methodLink "java/lang/StringLatin1" (92 : Nat) ({ cls := "java/lang/Math", name := "max", desc := "(II)I" } : Jvm.MethodName)) ∈ lw_all := lw_g (lw_at lw_m12 219 rfl) rfl
theorem q2936 : (Jvm.Cond.methodLink "java/lang/StringLatin1" (95 : Nat) ({ cls := "java/lang/StringLatin1", name := "indexOfChar", desc := "([BIII)I" } : Jvm.MethodName)) ∈ lw_all := lw_g (lw_at lw_m12 220 rfl) rfl
theorem q2937 : (Jvm.Cond.static ({ cls := "java/lang/StringLatin1", name := "indexOfChar", desc := "([BIII)I" } : Jvm.MethodName)) ∈ lw_all := lw_g (lw_at lw_m12 221 rfl) rfl
theorem q2938 : (Jvm.Cond.code ({ cls := "java/lang/StringLatin1", name := "indexOfChar", desc := "([BIII)I" } : Jvm.MethodName) prog_46_method_23_code (6 : Nat) (Option.some Jvm.ClassFile.FieldType.int)) ∈ lw_all := lw_g (lw_at lw_m12 222 rfl) rfl
/-! java/lang/Number -/
def RJ25 : String := "java/lang/Number"
abbrev cJ25_init : ByteArray := prog_42_method_1_code
def yJ25_init : MethodName := ⟨RJ25, "<init>", "()V"⟩
theorem dJ25_init_0 : decode cJ25_init 0 = .ok (.aload_n 0, 1) := by decide +kernel
theorem dJ25_init_1 : decode cJ25_init 1 = .ok (.invokespecial 1, 3) := by decide +kernel
theorem dJ25_init_4 : decode cJ25_init 4 = .ok (.return_, 1) := by decide +kernel
theorem q110 : (Jvm.Cond.initialized "java/lang/Number") ∈ lw_all := lw_g (lw_at lw_m1 34 rfl) rfl
theorem q698 : (Jvm.Cond.instanceMethod ({ cls := "java/lang/Number", name := "<init>", desc := "()V" } : Jvm.MethodName)) ∈ lw_all := lw_g (lw_at lw_m3 142 rfl) rfl
theorem q699 : (Jvm.Cond.code ({ cls := "java/lang/Number", name := "<init>", desc := "()V" } : Jvm.MethodName) prog_42_method_1_code (1 : Nat) (Option.none : Option Jvm.ClassFile.FieldType)) ∈ lw_all := lw_g (lw_at lw_m3 143 rfl) rfl
theorem q700 : (Jvm.Cond.methodLink "java/lang/Number" (1 : Nat) ({ cls := "java/lang/Object", name := "<init>", desc := "()V" } : Jvm.MethodName)) ∈ lw_all := lw_g (lw_at lw_m3 144 rfl) rfl
/-! java/lang/Integer -/
def RJ26 : String := "java/lang/Integer"
def TJ26 : u_T := fun k => match k with
  | _ => ("java/lang/Integer", "value", "I", true)
def tyJ26 : Nat → FieldType := fun k => match k with
  | _ => .int
abbrev wsJ260 : List Cond := u_ws RJ26 TJ26 1
theorem nmJ26 : ∀ a, a < 1 → ∀ b, b < 1 → a ≠ b → (TJ26 a).2.1 ≠ (TJ26 b).2.1 := by decide +kernel
theorem tyJ26_ok : ∀ k, k < 1 → parseFieldDescriptor (TJ26 k).2.2.1 = some (tyJ26 k) := by decide +kernel
abbrev cJ26_stringSize : ByteArray := prog_37_method_13_code
def yJ26_stringSize : MethodName := ⟨RJ26, "stringSize", "(I)I"⟩
def dkwJ26_stringSize_1 : List UInt8 := [164, 0, 7, 29, 27, 96, 172, 16, 10, 28, 104, 61, 132, 3, 1, 167, 255, 233, 16, 10, 27, 96, 172]
abbrev dktJ26_stringSize_1 : List UInt8 := dkwJ26_stringSize_1 ++ []
def dkwJ26_stringSize_0 : List UInt8 := [4, 60, 26, 155, 0, 8, 3, 60, 26, 116, 59, 16, 246, 61, 4, 62, 29, 16, 10, 162, 0, 23, 26, 28]
abbrev dktJ26_stringSize_0 : List UInt8 := dkwJ26_stringSize_0 ++ dktJ26_stringSize_1
theorem dksJ26_stringSize_0 : cJ26_stringSize.data.toList.drop 0 = dktJ26_stringSize_0 := by decide +kernel
theorem dksJ26_stringSize_1 : cJ26_stringSize.data.toList.drop 24 = dktJ26_stringSize_1 := dk_seg dksJ26_stringSize_0 24 rfl rfl
theorem dJ26_stringSize_0 : decode cJ26_stringSize 0 = .ok (.iconst 1, 1) := dk_4 (dk_at dksJ26_stringSize_0 0 rfl rfl)
theorem dJ26_stringSize_1 : decode cJ26_stringSize 1 = .ok (.istore_n 1, 1) := dk_60 (dk_at dksJ26_stringSize_0 1 rfl rfl)
theorem dJ26_stringSize_2 : decode cJ26_stringSize 2 = .ok (.iload_n 0, 1) := dk_26 (dk_at dksJ26_stringSize_0 2 rfl rfl)
theorem dJ26_stringSize_3 : decode cJ26_stringSize 3 = .ok (.ifCond .lt 8, 3) := dk_155 0 8 (dk_at dksJ26_stringSize_0 3 rfl rfl)
theorem dJ26_stringSize_6 : decode cJ26_stringSize 6 = .ok (.iconst 0, 1) := dk_3 (dk_at dksJ26_stringSize_0 6 rfl rfl)
theorem dJ26_stringSize_7 : decode cJ26_stringSize 7 = .ok (.istore_n 1, 1) := dk_60 (dk_at dksJ26_stringSize_0 7 rfl rfl)
theorem dJ26_stringSize_8 : decode cJ26_stringSize 8 = .ok (.iload_n 0, 1) := dk_26 (dk_at dksJ26_stringSize_0 8 rfl rfl)
theorem dJ26_stringSize_9 : decode cJ26_stringSize 9 = .ok (.ineg, 1) := dk_116 (dk_at dksJ26_stringSize_0 9 rfl rfl)
theorem dJ26_stringSize_10 : decode cJ26_stringSize 10 = .ok (.istore_n 0, 1) := dk_59 (dk_at dksJ26_stringSize_0 10 rfl rfl)
theorem dJ26_stringSize_11 : decode cJ26_stringSize 11 = .ok (.bipush (-10), 2) := dk_16 246 (dk_at dksJ26_stringSize_0 11 rfl rfl)
theorem dJ26_stringSize_13 : decode cJ26_stringSize 13 = .ok (.istore_n 2, 1) := dk_61 (dk_at dksJ26_stringSize_0 13 rfl rfl)
theorem dJ26_stringSize_14 : decode cJ26_stringSize 14 = .ok (.iconst 1, 1) := dk_4 (dk_at dksJ26_stringSize_0 14 rfl rfl)
theorem dJ26_stringSize_15 : decode cJ26_stringSize 15 = .ok (.istore_n 3, 1) := dk_62 (dk_at dksJ26_stringSize_0 15 rfl rfl)
theorem dJ26_stringSize_16 : decode cJ26_stringSize 16 = .ok (.iload_n 3, 1) := dk_29 (dk_at dksJ26_stringSize_0 16 rfl rfl)
theorem dJ26_stringSize_17 : decode cJ26_stringSize 17 = .ok (.bipush 10, 2) := dk_16 10 (dk_at dksJ26_stringSize_0 17 rfl rfl)
theorem dJ26_stringSize_19 : decode cJ26_stringSize 19 = .ok (.if_icmp .ge 23, 3) := dk_162 0 23 (dk_at dksJ26_stringSize_0 19 rfl rfl)
theorem dJ26_stringSize_22 : decode cJ26_stringSize 22 = .ok (.iload_n 0, 1) := dk_26 (dk_at dksJ26_stringSize_0 22 rfl rfl)
theorem dJ26_stringSize_23 : decode cJ26_stringSize 23 = .ok (.iload_n 2, 1) := dk_28 (dk_at dksJ26_stringSize_0 23 rfl rfl)
theorem dJ26_stringSize_24 : decode cJ26_stringSize 24 = .ok (.if_icmp .le 7, 3) := dk_164 0 7 (dk_at dksJ26_stringSize_1 0 rfl rfl)
theorem dJ26_stringSize_27 : decode cJ26_stringSize 27 = .ok (.iload_n 3, 1) := dk_29 (dk_at dksJ26_stringSize_1 3 rfl rfl)
theorem dJ26_stringSize_28 : decode cJ26_stringSize 28 = .ok (.iload_n 1, 1) := dk_27 (dk_at dksJ26_stringSize_1 4 rfl rfl)
theorem dJ26_stringSize_29 : decode cJ26_stringSize 29 = .ok (.iadd, 1) := dk_96 (dk_at dksJ26_stringSize_1 5 rfl rfl)
theorem dJ26_stringSize_30 : decode cJ26_stringSize 30 = .ok (.ireturn, 1) := dk_172 (dk_at dksJ26_stringSize_1 6 rfl rfl)
theorem dJ26_stringSize_31 : decode cJ26_stringSize 31 = .ok (.bipush 10, 2) := dk_16 10 (dk_at dksJ26_stringSize_1 7 rfl rfl)
theorem dJ26_stringSize_33 : decode cJ26_stringSize 33 = .ok (.iload_n 2, 1) := dk_28 (dk_at dksJ26_stringSize_1 9 rfl rfl)
theorem dJ26_stringSize_34 : decode cJ26_stringSize 34 = .ok (.imul, 1) := dk_104 (dk_at dksJ26_stringSize_1 10 rfl rfl)
theorem dJ26_stringSize_35 : decode cJ26_stringSize 35 = .ok (.istore_n 2, 1) := dk_61 (dk_at dksJ26_stringSize_1 11 rfl rfl)
theorem dJ26_stringSize_36 : decode cJ26_stringSize 36 = .ok (.iinc 3 1, 3) := dk_132 3 1 (dk_at dksJ26_stringSize_1 12 rfl rfl)
theorem dJ26_stringSize_39 : decode cJ26_stringSize 39 = .ok (.goto (-23), 3) := dk_167 255 233 (dk_at dksJ26_stringSize_1 15 rfl rfl)
theorem dJ26_stringSize_42 : decode cJ26_stringSize 42 = .ok (.bipush 10, 2) := dk_16 10 (dk_at dksJ26_stringSize_1 18 rfl rfl)
theorem dJ26_stringSize_44 : decode cJ26_stringSize 44 = .ok (.iload_n 1, 1) := dk_27 (dk_at dksJ26_stringSize_1 20 rfl rfl)
theorem dJ26_stringSize_45 : decode cJ26_stringSize 45 = .ok (.iadd, 1) := dk_96 (dk_at dksJ26_stringSize_1 21 rfl rfl)
theorem dJ26_stringSize_46 : decode cJ26_stringSize 46 = .ok (.ireturn, 1) := dk_172 (dk_at dksJ26_stringSize_1 22 rfl rfl)
abbrev cJ26_getChars : ByteArray := prog_37_method_12_code
def yJ26_getChars : MethodName := ⟨RJ26, "getChars", "(II[B)I"⟩
def dkwJ26_getChars_5 : List UInt8 := [16, 45, 84, 21, 5, 172]
abbrev dktJ26_getChars_5 : List UInt8 := dkwJ26_getChars_5 ++ []
def dkwJ26_getChars_4 : List UInt8 := [132, 5, 255, 21, 5, 178, 0, 87, 26, 116, 51, 84, 21, 6, 153, 0, 12, 44, 132, 5, 255, 21, 5]
abbrev dktJ26_getChars_4 : List UInt8 := dkwJ26_getChars_4 ++ dktJ26_getChars_5
def dkwJ26_getChars_3 : List UInt8 := [167, 255, 209, 44, 132, 5, 255, 21, 5, 178, 0, 83, 26, 116, 51, 84, 26, 16, 247, 162, 0, 16, 44]
abbrev dktJ26_getChars_3 : List UInt8 := dkwJ26_getChars_3 ++ dktJ26_getChars_4
def dkwJ26_getChars_2 : List UInt8 := [21, 5, 178, 0, 83, 21, 4, 51, 84, 44, 132, 5, 255, 21, 5, 178, 0, 87, 21, 4, 51, 84]
abbrev dktJ26_getChars_2 : List UInt8 := dkwJ26_getChars_2 ++ dktJ26_getChars_3
def dkwJ26_getChars_1 : List UInt8 := [16, 156, 163, 0, 47, 26, 16, 100, 108, 62, 29, 16, 100, 104, 26, 100, 54, 4, 29, 59, 44, 132, 5, 255]
abbrev dktJ26_getChars_1 : List UInt8 := dkwJ26_getChars_1 ++ dktJ26_getChars_2
def dkwJ26_getChars_0 : List UInt8 := [27, 54, 5, 26, 156, 0, 7, 4, 167, 0, 4, 3, 54, 6, 21, 6, 154, 0, 6, 26, 116, 59, 26]
abbrev dktJ26_getChars_0 : List UInt8 := dkwJ26_getChars_0 ++ dktJ26_getChars_1
theorem dksJ26_getChars_0 : cJ26_getChars.data.toList.drop 0 = dktJ26_getChars_0 := by decide +kernel
theorem dksJ26_getChars_1 : cJ26_getChars.data.toList.drop 23 = dktJ26_getChars_1 := dk_seg dksJ26_getChars_0 23 rfl rfl
theorem dksJ26_getChars_2 : cJ26_getChars.data.toList.drop 47 = dktJ26_getChars_2 := dk_seg dksJ26_getChars_1 24 rfl rfl
theorem dksJ26_getChars_3 : cJ26_getChars.data.toList.drop 69 = dktJ26_getChars_3 := dk_seg dksJ26_getChars_2 22 rfl rfl
theorem dksJ26_getChars_4 : cJ26_getChars.data.toList.drop 92 = dktJ26_getChars_4 := dk_seg dksJ26_getChars_3 23 rfl rfl
theorem dksJ26_getChars_5 : cJ26_getChars.data.toList.drop 115 = dktJ26_getChars_5 := dk_seg dksJ26_getChars_4 23 rfl rfl
theorem dJ26_getChars_0 : decode cJ26_getChars 0 = .ok (.iload_n 1, 1) := dk_27 (dk_at dksJ26_getChars_0 0 rfl rfl)
theorem dJ26_getChars_1 : decode cJ26_getChars 1 = .ok (.istore 5, 2) := dk_54 5 (dk_at dksJ26_getChars_0 1 rfl rfl)
theorem dJ26_getChars_3 : decode cJ26_getChars 3 = .ok (.iload_n 0, 1) := dk_26 (dk_at dksJ26_getChars_0 3 rfl rfl)
theorem dJ26_getChars_4 : decode cJ26_getChars 4 = .ok (.ifCond .ge 7, 3) := dk_156 0 7 (dk_at dksJ26_getChars_0 4 rfl rfl)
theorem dJ26_getChars_7 : decode cJ26_getChars 7 = .ok (.iconst 1, 1) := dk_4 (dk_at dksJ26_getChars_0 7 rfl rfl)
theorem dJ26_getChars_8 : decode cJ26_getChars 8 = .ok (.goto 4, 3) := dk_167 0 4 (dk_at dksJ26_getChars_0 8 rfl rfl)
theorem dJ26_getChars_11 : decode cJ26_getChars 11 = .ok (.iconst 0, 1) := dk_3 (dk_at dksJ26_getChars_0 11 rfl rfl)
theorem dJ26_getChars_12 : decode cJ26_getChars 12 = .ok (.istore 6, 2) := dk_54 6 (dk_at dksJ26_getChars_0 12 rfl rfl)
theorem dJ26_getChars_14 : decode cJ26_getChars 14 = .ok (.iload 6, 2) := dk_21 6 (dk_at dksJ26_getChars_0 14 rfl rfl)
theorem dJ26_getChars_16 : decode cJ26_getChars 16 = .ok (.ifCond .ne 6, 3) := dk_154 0 6 (dk_at dksJ26_getChars_0 16 rfl rfl)
theorem dJ26_getChars_19 : decode cJ26_getChars 19 = .ok (.iload_n 0, 1) := dk_26 (dk_at dksJ26_getChars_0 19 rfl rfl)
theorem dJ26_getChars_20 : decode cJ26_getChars 20 = .ok (.ineg, 1) := dk_116 (dk_at dksJ26_getChars_0 20 rfl rfl)
theorem dJ26_getChars_21 : decode cJ26_getChars 21 = .ok (.istore_n 0, 1) := dk_59 (dk_at dksJ26_getChars_0 21 rfl rfl)
theorem dJ26_getChars_22 : decode cJ26_getChars 22 = .ok (.iload_n 0, 1) := dk_26 (dk_at dksJ26_getChars_0 22 rfl rfl)
theorem dJ26_getChars_23 : decode cJ26_getChars 23 = .ok (.bipush (-100), 2) := dk_16 156 (dk_at dksJ26_getChars_1 0 rfl rfl)
theorem dJ26_getChars_25 : decode cJ26_getChars 25 = .ok (.if_icmp .gt 47, 3) := dk_163 0 47 (dk_at dksJ26_getChars_1 2 rfl rfl)
theorem dJ26_getChars_28 : decode cJ26_getChars 28 = .ok (.iload_n 0, 1) := dk_26 (dk_at dksJ26_getChars_1 5 rfl rfl)
theorem dJ26_getChars_29 : decode cJ26_getChars 29 = .ok (.bipush 100, 2) := dk_16 100 (dk_at dksJ26_getChars_1 6 rfl rfl)
theorem dJ26_getChars_31 : decode cJ26_getChars 31 = .ok (.idiv, 1) := dk_108 (dk_at dksJ26_getChars_1 8 rfl rfl)
theorem dJ26_getChars_32 : decode cJ26_getChars 32 = .ok (.istore_n 3, 1) := dk_62 (dk_at dksJ26_getChars_1 9 rfl rfl)
theorem dJ26_getChars_33 : decode cJ26_getChars 33 = .ok (.iload_n 3, 1) := dk_29 (dk_at dksJ26_getChars_1 10 rfl rfl)
theorem dJ26_getChars_34 : decode cJ26_getChars 34 = .ok (.bipush 100, 2) := dk_16 100 (dk_at dksJ26_getChars_1 11 rfl rfl)
theorem dJ26_getChars_36 : decode cJ26_getChars 36 = .ok (.imul, 1) := dk_104 (dk_at dksJ26_getChars_1 13 rfl rfl)
theorem dJ26_getChars_37 : decode cJ26_getChars 37 = .ok (.iload_n 0, 1) := dk_26 (dk_at dksJ26_getChars_1 14 rfl rfl)
theorem dJ26_getChars_38 : decode cJ26_getChars 38 = .ok (.isub, 1) := dk_100 (dk_at dksJ26_getChars_1 15 rfl rfl)
theorem dJ26_getChars_39 : decode cJ26_getChars 39 = .ok (.istore 4, 2) := dk_54 4 (dk_at dksJ26_getChars_1 16 rfl rfl)
theorem dJ26_getChars_41 : decode cJ26_getChars 41 = .ok (.iload_n 3, 1) := dk_29 (dk_at dksJ26_getChars_1 18 rfl rfl)
theorem dJ26_getChars_42 : decode cJ26_getChars 42 = .ok (.istore_n 0, 1) := dk_59 (dk_at dksJ26_getChars_1 19 rfl rfl)
theorem dJ26_getChars_43 : decode cJ26_getChars 43 = .ok (.aload_n 2, 1) := dk_44 (dk_at dksJ26_getChars_1 20 rfl rfl)
theorem dJ26_getChars_44 : decode cJ26_getChars 44 = .ok (.iinc 5 (-1), 3) := dk_132 5 255 (dk_at dksJ26_getChars_1 21 rfl rfl)
theorem dJ26_getChars_47 : decode cJ26_getChars 47 = .ok (.iload 5, 2) := dk_21 5 (dk_at dksJ26_getChars_2 0 rfl rfl)
theorem dJ26_getChars_49 : decode cJ26_getChars 49 = .ok (.getstatic 83, 3) := dk_178 0 83 (dk_at dksJ26_getChars_2 2 rfl rfl)
theorem dJ26_getChars_52 : decode cJ26_getChars 52 = .ok (.iload 4, 2) := dk_21 4 (dk_at dksJ26_getChars_2 5 rfl rfl)
theorem dJ26_getChars_54 : decode cJ26_getChars 54 = .ok (.baload, 1) := dk_51 (dk_at dksJ26_getChars_2 7 rfl rfl)
theorem dJ26_getChars_55 : decode cJ26_getChars 55 = .ok (.bastore, 1) := dk_84 (dk_at dksJ26_getChars_2 8 rfl rfl)
theorem dJ26_getChars_56 : decode cJ26_getChars 56 = .ok (.aload_n 2, 1) := dk_44 (dk_at dksJ26_getChars_2 9 rfl rfl)
theorem dJ26_getChars_57 : decode cJ26_getChars 57 = .ok (.iinc 5 (-1), 3) := dk_132 5 255 (dk_at dksJ26_getChars_2 10 rfl rfl)
theorem dJ26_getChars_60 : decode cJ26_getChars 60 = .ok (.iload 5, 2) := dk_21 5 (dk_at dksJ26_getChars_2 13 rfl rfl)
theorem dJ26_getChars_62 : decode cJ26_getChars 62 = .ok (.getstatic 87, 3) := dk_178 0 87 (dk_at dksJ26_getChars_2 15 rfl rfl)
theorem dJ26_getChars_65 : decode cJ26_getChars 65 = .ok (.iload 4, 2) := dk_21 4 (dk_at dksJ26_getChars_2 18 rfl rfl)
theorem dJ26_getChars_67 : decode cJ26_getChars 67 = .ok (.baload, 1) := dk_51 (dk_at dksJ26_getChars_2 20 rfl rfl)
theorem dJ26_getChars_68 : decode cJ26_getChars 68 = .ok (.bastore, 1) := dk_84 (dk_at dksJ26_getChars_2 21 rfl rfl)
theorem dJ26_getChars_69 : decode cJ26_getChars 69 = .ok (.goto (-47), 3) := dk_167 255 209 (dk_at dksJ26_getChars_3 0 rfl rfl)
theorem dJ26_getChars_72 : decode cJ26_getChars 72 = .ok (.aload_n 2, 1) := dk_44 (dk_at dksJ26_getChars_3 3 rfl rfl)
theorem dJ26_getChars_73 : decode cJ26_getChars 73 = .ok (.iinc 5 (-1), 3) := dk_132 5 255 (dk_at dksJ26_getChars_3 4 rfl rfl)
theorem dJ26_getChars_76 : decode cJ26_getChars 76 = .ok (.iload 5, 2) := dk_21 5 (dk_at dksJ26_getChars_3 7 rfl rfl)
theorem dJ26_getChars_78 : decode cJ26_getChars 78 = .ok (.getstatic 83, 3) := dk_178 0 83 (dk_at dksJ26_getChars_3 9 rfl rfl)
theorem dJ26_getChars_81 : decode cJ26_getChars 81 = .ok (.iload_n 0, 1) := dk_26 (dk_at dksJ26_getChars_3 12 rfl rfl)
theorem dJ26_getChars_82 : decode cJ26_getChars 82 = .ok (.ineg, 1) := dk_116 (dk_at dksJ26_getChars_3 13 rfl rfl)
theorem dJ26_getChars_83 : decode cJ26_getChars 83 = .ok (.baload, 1) := dk_51 (dk_at dksJ26_getChars_3 14 rfl rfl)
theorem dJ26_getChars_84 : decode cJ26_getChars 84 = .ok (.bastore, 1) := dk_84 (dk_at dksJ26_getChars_3 15 rfl rfl)
theorem dJ26_getChars_85 : decode cJ26_getChars 85 = .ok (.iload_n 0, 1) := dk_26 (dk_at dksJ26_getChars_3 16 rfl rfl)
theorem dJ26_getChars_86 : decode cJ26_getChars 86 = .ok (.bipush (-9), 2) := dk_16 247 (dk_at dksJ26_getChars_3 17 rfl rfl)
theorem dJ26_getChars_88 : decode cJ26_getChars 88 = .ok (.if_icmp .ge 16, 3) := dk_162 0 16 (dk_at dksJ26_getChars_3 19 rfl rfl)
theorem dJ26_getChars_91 : decode cJ26_getChars 91 = .ok (.aload_n 2, 1) := dk_44 (dk_at dksJ26_getChars_3 22 rfl rfl)
theorem dJ26_getChars_92 : decode cJ26_getChars 92 = .ok (.iinc 5 (-1), 3) := dk_132 5 255 (dk_at dksJ26_getChars_4 0 rfl rfl)
theorem dJ26_getChars_95 : decode cJ26_getChars 95 = .ok (.iload 5, 2) := dk_21 5 (dk_at dksJ26_getChars_4 3 rfl rfl)
theorem dJ26_getChars_97 : decode cJ26_getChars 97 = .ok (.getstatic 87, 3) := dk_178 0 87 (dk_at dksJ26_getChars_4 5 rfl rfl)
theorem dJ26_getChars_100 : decode cJ26_getChars 100 = .ok (.iload_n 0, 1) := dk_26 (dk_at dksJ26_getChars_4 8 rfl rfl)
theorem dJ26_getChars_101 : decode cJ26_getChars 101 = .ok (.ineg, 1) := dk_116 (dk_at dksJ26_getChars_4 9 rfl rfl)
theorem dJ26_getChars_102 : decode cJ26_getChars 102 = .ok (.baload, 1) := dk_51 (dk_at dksJ26_getChars_4 10 rfl rfl)
theorem dJ26_getChars_103 : decode cJ26_getChars 103 = .ok (.bastore, 1) := dk_84 (dk_at dksJ26_getChars_4 11 rfl rfl)
theorem dJ26_getChars_104 : decode cJ26_getChars 104 = .ok (.iload 6, 2) := dk_21 6 (dk_at dksJ26_getChars_4 12 rfl rfl)
theorem dJ26_getChars_106 : decode cJ26_getChars 106 = .ok (.ifCond .eq 12, 3) := dk_153 0 12 (dk_at dksJ26_getChars_4 14 rfl rfl)
theorem dJ26_getChars_109 : decode cJ26_getChars 109 = .ok (.aload_n 2, 1) := dk_44 (dk_at dksJ26_getChars_4 17 rfl rfl)
theorem dJ26_getChars_110 : decode cJ26_getChars 110 = .ok (.iinc 5 (-1), 3) := dk_132 5 255 (dk_at dksJ26_getChars_4 18 rfl rfl)
theorem dJ26_getChars_113 : decode cJ26_getChars 113 = .ok (.iload 5, 2) := dk_21 5 (dk_at dksJ26_getChars_4 21 rfl rfl)
theorem dJ26_getChars_115 : decode cJ26_getChars 115 = .ok (.bipush 45, 2) := dk_16 45 (dk_at dksJ26_getChars_5 0 rfl rfl)
theorem dJ26_getChars_117 : decode cJ26_getChars 117 = .ok (.bastore, 1) := dk_84 (dk_at dksJ26_getChars_5 2 rfl rfl)
theorem dJ26_getChars_118 : decode cJ26_getChars 118 = .ok (.iload 5, 2) := dk_21 5 (dk_at dksJ26_getChars_5 3 rfl rfl)
theorem dJ26_getChars_120 : decode cJ26_getChars 120 = .ok (.ireturn, 1) := dk_172 (dk_at dksJ26_getChars_5 5 rfl rfl)
abbrev cJ26_numberOfTrailingZeros : ByteArray := prog_37_method_48_code
def yJ26_numberOfTrailingZeros : MethodName := ⟨RJ26, "numberOfTrailingZeros", "(I)I"⟩
def dkwJ26_numberOfTrailingZeros_3 : List UInt8 := [5, 124, 59, 27, 26, 4, 124, 96, 172]
abbrev dktJ26_numberOfTrailingZeros_3 : List UInt8 := dkwJ26_numberOfTrailingZeros_3 ++ []
def dkwJ26_numberOfTrailingZeros_2 : List UInt8 := [124, 59, 26, 16, 16, 164, 0, 10, 132, 1, 4, 26, 7, 124, 59, 26, 7, 164, 0, 10, 132, 1, 2, 26]
abbrev dktJ26_numberOfTrailingZeros_2 : List UInt8 := dkwJ26_numberOfTrailingZeros_2 ++ dktJ26_numberOfTrailingZeros_3
def dkwJ26_numberOfTrailingZeros_1 : List UInt8 := [164, 0, 11, 132, 1, 16, 26, 16, 16, 124, 59, 26, 17, 1, 0, 164, 0, 11, 132, 1, 8, 26, 16, 8]
abbrev dktJ26_numberOfTrailingZeros_1 : List UInt8 := dkwJ26_numberOfTrailingZeros_1 ++ dktJ26_numberOfTrailingZeros_2
def dkwJ26_numberOfTrailingZeros_0 : List UInt8 := [26, 2, 130, 26, 4, 100, 126, 59, 26, 157, 0, 8, 26, 16, 32, 126, 172, 4, 60, 26, 19, 1, 8]
abbrev dktJ26_numberOfTrailingZeros_0 : List UInt8 := dkwJ26_numberOfTrailingZeros_0 ++ dktJ26_numberOfTrailingZeros_1
theorem dksJ26_numberOfTrailingZeros_0 : cJ26_numberOfTrailingZeros.data.toList.drop 0 = dktJ26_numberOfTrailingZeros_0 := by decide +kernel
theorem dksJ26_numberOfTrailingZeros_1 : cJ26_numberOfTrailingZeros.data.toList.drop 23 = dktJ26_numberOfTrailingZeros_1 := dk_seg dksJ26_numberOfTrailingZeros_0 23 rfl rfl
theorem dksJ26_numberOfTrailingZeros_2 : cJ26_numberOfTrailingZeros.data.toList.drop 47 = dktJ26_numberOfTrailingZeros_2 := dk_seg dksJ26_numberOfTrailingZeros_1 24 rfl rfl
theorem dksJ26_numberOfTrailingZeros_3 : cJ26_numberOfTrailingZeros.data.toList.drop 71 = dktJ26_numberOfTrailingZeros_3 := dk_seg dksJ26_numberOfTrailingZeros_2 24 rfl rfl
theorem dJ26_numberOfTrailingZeros_0 : decode cJ26_numberOfTrailingZeros 0 = .ok (.iload_n 0, 1) := dk_26 (dk_at dksJ26_numberOfTrailingZeros_0 0 rfl rfl)
theorem dJ26_numberOfTrailingZeros_1 : decode cJ26_numberOfTrailingZeros 1 = .ok (.iconst (-1), 1) := dk_2 (dk_at dksJ26_numberOfTrailingZeros_0 1 rfl rfl)
theorem dJ26_numberOfTrailingZeros_2 : decode cJ26_numberOfTrailingZeros 2 = .ok (.ixor, 1) := dk_130 (dk_at dksJ26_numberOfTrailingZeros_0 2 rfl rfl)
theorem dJ26_numberOfTrailingZeros_3 : decode cJ26_numberOfTrailingZeros 3 = .ok (.iload_n 0, 1) := dk_26 (dk_at dksJ26_numberOfTrailingZeros_0 3 rfl rfl)
theorem dJ26_numberOfTrailingZeros_4 : decode cJ26_numberOfTrailingZeros 4 = .ok (.iconst 1, 1) := dk_4 (dk_at dksJ26_numberOfTrailingZeros_0 4 rfl rfl)
theorem dJ26_numberOfTrailingZeros_5 : decode cJ26_numberOfTrailingZeros 5 = .ok (.isub, 1) := dk_100 (dk_at dksJ26_numberOfTrailingZeros_0 5 rfl rfl)
theorem dJ26_numberOfTrailingZeros_6 : decode cJ26_numberOfTrailingZeros 6 = .ok (.iand, 1) := dk_126 (dk_at dksJ26_numberOfTrailingZeros_0 6 rfl rfl)
theorem dJ26_numberOfTrailingZeros_7 : decode cJ26_numberOfTrailingZeros 7 = .ok (.istore_n 0, 1) := dk_59 (dk_at dksJ26_numberOfTrailingZeros_0 7 rfl rfl)
theorem dJ26_numberOfTrailingZeros_8 : decode cJ26_numberOfTrailingZeros 8 = .ok (.iload_n 0, 1) := dk_26 (dk_at dksJ26_numberOfTrailingZeros_0 8 rfl rfl)
theorem dJ26_numberOfTrailingZeros_9 : decode cJ26_numberOfTrailingZeros 9 = .ok (.ifCond .gt 8, 3) := dk_157 0 8 (dk_at dksJ26_numberOfTrailingZeros_0 9 rfl rfl)
theorem dJ26_numberOfTrailingZeros_12 : decode cJ26_numberOfTrailingZeros 12 = .ok (.iload_n 0, 1) := dk_26 (dk_at dksJ26_numberOfTrailingZeros_0 12 rfl rfl)
theorem dJ26_numberOfTrailingZeros_13 : decode cJ26_numberOfTrailingZeros 13 = .ok (.bipush 32, 2) := dk_16 32 (dk_at dksJ26_numberOfTrailingZeros_0 13 rfl rfl)
theorem dJ26_numberOfTrailingZeros_15 : decode cJ26_numberOfTrailingZeros 15 = .ok (.iand, 1) := dk_126 (dk_at dksJ26_numberOfTrailingZeros_0 15 rfl rfl)
theorem dJ26_numberOfTrailingZeros_16 : decode cJ26_numberOfTrailingZeros 16 = .ok (.ireturn, 1) := dk_172 (dk_at dksJ26_numberOfTrailingZeros_0 16 rfl rfl)
theorem dJ26_numberOfTrailingZeros_17 : decode cJ26_numberOfTrailingZeros 17 = .ok (.iconst 1, 1) := dk_4 (dk_at dksJ26_numberOfTrailingZeros_0 17 rfl rfl)
theorem dJ26_numberOfTrailingZeros_18 : decode cJ26_numberOfTrailingZeros 18 = .ok (.istore_n 1, 1) := dk_60 (dk_at dksJ26_numberOfTrailingZeros_0 18 rfl rfl)
theorem dJ26_numberOfTrailingZeros_19 : decode cJ26_numberOfTrailingZeros 19 = .ok (.iload_n 0, 1) := dk_26 (dk_at dksJ26_numberOfTrailingZeros_0 19 rfl rfl)
theorem dJ26_numberOfTrailingZeros_20 : decode cJ26_numberOfTrailingZeros 20 = .ok (.ldc_w 264, 3) := dk_19 1 8 (dk_at dksJ26_numberOfTrailingZeros_0 20 rfl rfl)
theorem dJ26_numberOfTrailingZeros_23 : decode cJ26_numberOfTrailingZeros 23 = .ok (.if_icmp .le 11, 3) := dk_164 0 11 (dk_at dksJ26_numberOfTrailingZeros_1 0 rfl rfl)
theorem dJ26_numberOfTrailingZeros_26 : decode cJ26_numberOfTrailingZeros 26 = .ok (.iinc 1 16, 3) := dk_132 1 16 (dk_at dksJ26_numberOfTrailingZeros_1 3 rfl rfl)
theorem dJ26_numberOfTrailingZeros_29 : decode cJ26_numberOfTrailingZeros 29 = .ok (.iload_n 0, 1) := dk_26 (dk_at dksJ26_numberOfTrailingZeros_1 6 rfl rfl)
theorem dJ26_numberOfTrailingZeros_30 : decode cJ26_numberOfTrailingZeros 30 = .ok (.bipush 16, 2) := dk_16 16 (dk_at dksJ26_numberOfTrailingZeros_1 7 rfl rfl)
theorem dJ26_numberOfTrailingZeros_32 : decode cJ26_numberOfTrailingZeros 32 = .ok (.iushr, 1) := dk_124 (dk_at dksJ26_numberOfTrailingZeros_1 9 rfl rfl)
theorem dJ26_numberOfTrailingZeros_33 : decode cJ26_numberOfTrailingZeros 33 = .ok (.istore_n 0, 1) := dk_59 (dk_at dksJ26_numberOfTrailingZeros_1 10 rfl rfl)
theorem dJ26_numberOfTrailingZeros_34 : decode cJ26_numberOfTrailingZeros 34 = .ok (.iload_n 0, 1) := dk_26 (dk_at dksJ26_numberOfTrailingZeros_1 11 rfl rfl)
theorem dJ26_numberOfTrailingZeros_35 : decode cJ26_numberOfTrailingZeros 35 = .ok (.sipush 256, 3) := dk_17 1 0 (dk_at dksJ26_numberOfTrailingZeros_1 12 rfl rfl)
theorem dJ26_numberOfTrailingZeros_38 : decode cJ26_numberOfTrailingZeros 38 = .ok (.if_icmp .le 11, 3) := dk_164 0 11 (dk_at dksJ26_numberOfTrailingZeros_1 15 rfl rfl)
theorem dJ26_numberOfTrailingZeros_41 : decode cJ26_numberOfTrailingZeros 41 = .ok (.iinc 1 8, 3) := dk_132 1 8 (dk_at dksJ26_numberOfTrailingZeros_1 18 rfl rfl)
theorem dJ26_numberOfTrailingZeros_44 : decode cJ26_numberOfTrailingZeros 44 = .ok (.iload_n 0, 1) := dk_26 (dk_at dksJ26_numberOfTrailingZeros_1 21 rfl rfl)
theorem dJ26_numberOfTrailingZeros_45 : decode cJ26_numberOfTrailingZeros 45 = .ok (.bipush 8, 2) := dk_16 8 (dk_at dksJ26_numberOfTrailingZeros_1 22 rfl rfl)
theorem dJ26_numberOfTrailingZeros_47 : decode cJ26_numberOfTrailingZeros 47 = .ok (.iushr, 1) := dk_124 (dk_at dksJ26_numberOfTrailingZeros_2 0 rfl rfl)
theorem dJ26_numberOfTrailingZeros_48 : decode cJ26_numberOfTrailingZeros 48 = .ok (.istore_n 0, 1) := dk_59 (dk_at dksJ26_numberOfTrailingZeros_2 1 rfl rfl)
theorem dJ26_numberOfTrailingZeros_49 : decode cJ26_numberOfTrailingZeros 49 = .ok (.iload_n 0, 1) := dk_26 (dk_at dksJ26_numberOfTrailingZeros_2 2 rfl rfl)
theorem dJ26_numberOfTrailingZeros_50 : decode cJ26_numberOfTrailingZeros 50 = .ok (.bipush 16, 2) := dk_16 16 (dk_at dksJ26_numberOfTrailingZeros_2 3 rfl rfl)
theorem dJ26_numberOfTrailingZeros_52 : decode cJ26_numberOfTrailingZeros 52 = .ok (.if_icmp .le 10, 3) := dk_164 0 10 (dk_at dksJ26_numberOfTrailingZeros_2 5 rfl rfl)
theorem dJ26_numberOfTrailingZeros_55 : decode cJ26_numberOfTrailingZeros 55 = .ok (.iinc 1 4, 3) := dk_132 1 4 (dk_at dksJ26_numberOfTrailingZeros_2 8 rfl rfl)
theorem dJ26_numberOfTrailingZeros_58 : decode cJ26_numberOfTrailingZeros 58 = .ok (.iload_n 0, 1) := dk_26 (dk_at dksJ26_numberOfTrailingZeros_2 11 rfl rfl)
theorem dJ26_numberOfTrailingZeros_59 : decode cJ26_numberOfTrailingZeros 59 = .ok (.iconst 4, 1) := dk_7 (dk_at dksJ26_numberOfTrailingZeros_2 12 rfl rfl)
theorem dJ26_numberOfTrailingZeros_60 : decode cJ26_numberOfTrailingZeros 60 = .ok (.iushr, 1) := dk_124 (dk_at dksJ26_numberOfTrailingZeros_2 13 rfl rfl)
theorem dJ26_numberOfTrailingZeros_61 : decode cJ26_numberOfTrailingZeros 61 = .ok (.istore_n 0, 1) := dk_59 (dk_at dksJ26_numberOfTrailingZeros_2 14 rfl rfl)
theorem dJ26_numberOfTrailingZeros_62 : decode cJ26_numberOfTrailingZeros 62 = .ok (.iload_n 0, 1) := dk_26 (dk_at dksJ26_numberOfTrailingZeros_2 15 rfl rfl)
theorem dJ26_numberOfTrailingZeros_63 : decode cJ26_numberOfTrailingZeros 63 = .ok (.iconst 4, 1) := dk_7 (dk_at dksJ26_numberOfTrailingZeros_2 16 rfl rfl)
theorem dJ26_numberOfTrailingZeros_64 : decode cJ26_numberOfTrailingZeros 64 = .ok (.if_icmp .le 10, 3) := dk_164 0 10 (dk_at dksJ26_numberOfTrailingZeros_2 17 rfl rfl)
theorem dJ26_numberOfTrailingZeros_67 : decode cJ26_numberOfTrailingZeros 67 = .ok (.iinc 1 2, 3) := dk_132 1 2 (dk_at dksJ26_numberOfTrailingZeros_2 20 rfl rfl)
theorem dJ26_numberOfTrailingZeros_70 : decode cJ26_numberOfTrailingZeros 70 = .ok (.iload_n 0, 1) := dk_26 (dk_at dksJ26_numberOfTrailingZeros_2 23 rfl rfl)
theorem dJ26_numberOfTrailingZeros_71 : decode cJ26_numberOfTrailingZeros 71 = .ok (.iconst 2, 1) := dk_5 (dk_at dksJ26_numberOfTrailingZeros_3 0 rfl rfl)
theorem dJ26_numberOfTrailingZeros_72 : decode cJ26_numberOfTrailingZeros 72 = .ok (.iushr, 1) := dk_124 (dk_at dksJ26_numberOfTrailingZeros_3 1 rfl rfl)
theorem dJ26_numberOfTrailingZeros_73 : decode cJ26_numberOfTrailingZeros 73 = .ok (.istore_n 0, 1) := dk_59 (dk_at dksJ26_numberOfTrailingZeros_3 2 rfl rfl)
theorem dJ26_numberOfTrailingZeros_74 : decode cJ26_numberOfTrailingZeros 74 = .ok (.iload_n 1, 1) := dk_27 (dk_at dksJ26_numberOfTrailingZeros_3 3 rfl rfl)
theorem dJ26_numberOfTrailingZeros_75 : decode cJ26_numberOfTrailingZeros 75 = .ok (.iload_n 0, 1) := dk_26 (dk_at dksJ26_numberOfTrailingZeros_3 4 rfl rfl)
theorem dJ26_numberOfTrailingZeros_76 : decode cJ26_numberOfTrailingZeros 76 = .ok (.iconst 1, 1) := dk_4 (dk_at dksJ26_numberOfTrailingZeros_3 5 rfl rfl)
theorem dJ26_numberOfTrailingZeros_77 : decode cJ26_numberOfTrailingZeros 77 = .ok (.iushr, 1) := dk_124 (dk_at dksJ26_numberOfTrailingZeros_3 6 rfl rfl)
theorem dJ26_numberOfTrailingZeros_78 : decode cJ26_numberOfTrailingZeros 78 = .ok (.iadd, 1) := dk_96 (dk_at dksJ26_numberOfTrailingZeros_3 7 rfl rfl)
theorem dJ26_numberOfTrailingZeros_79 : decode cJ26_numberOfTrailingZeros 79 = .ok (.ireturn, 1) := dk_172 (dk_at dksJ26_numberOfTrailingZeros_3 8 rfl rfl)
abbrev cJ26_valueOf : ByteArray := prog_37_method_22_code
def yJ26_valueOf : MethodName := ⟨RJ26, "valueOf", "(I)Ljava/lang/Integer;"⟩
def dkwJ26_valueOf_1 : List UInt8 := [187, 0, 1, 89, 26, 183, 0, 199, 176]
abbrev dktJ26_valueOf_1 : List UInt8 := dkwJ26_valueOf_1 ++ []
def dkwJ26_valueOf_0 : List UInt8 := [26, 16, 128, 161, 0, 20, 26, 178, 0, 191, 163, 0, 13, 178, 0, 195, 26, 17, 0, 128, 96, 50, 176]
abbrev dktJ26_valueOf_0 : List UInt8 := dkwJ26_valueOf_0 ++ dktJ26_valueOf_1
theorem dksJ26_valueOf_0 : cJ26_valueOf.data.toList.drop 0 = dktJ26_valueOf_0 := by decide +kernel
theorem dksJ26_valueOf_1 : cJ26_valueOf.data.toList.drop 23 = dktJ26_valueOf_1 := dk_seg dksJ26_valueOf_0 23 rfl rfl
theorem dJ26_valueOf_0 : decode cJ26_valueOf 0 = .ok (.iload_n 0, 1) := dk_26 (dk_at dksJ26_valueOf_0 0 rfl rfl)
theorem dJ26_valueOf_1 : decode cJ26_valueOf 1 = .ok (.bipush (-128), 2) := dk_16 128 (dk_at dksJ26_valueOf_0 1 rfl rfl)
theorem dJ26_valueOf_3 : decode cJ26_valueOf 3 = .ok (.if_icmp .lt 20, 3) := dk_161 0 20 (dk_at dksJ26_valueOf_0 3 rfl rfl)
theorem dJ26_valueOf_6 : decode cJ26_valueOf 6 = .ok (.iload_n 0, 1) := dk_26 (dk_at dksJ26_valueOf_0 6 rfl rfl)
theorem dJ26_valueOf_7 : decode cJ26_valueOf 7 = .ok (.getstatic 191, 3) := dk_178 0 191 (dk_at dksJ26_valueOf_0 7 rfl rfl)
theorem dJ26_valueOf_10 : decode cJ26_valueOf 10 = .ok (.if_icmp .gt 13, 3) := dk_163 0 13 (dk_at dksJ26_valueOf_0 10 rfl rfl)
theorem dJ26_valueOf_13 : decode cJ26_valueOf 13 = .ok (.getstatic 195, 3) := dk_178 0 195 (dk_at dksJ26_valueOf_0 13 rfl rfl)
theorem dJ26_valueOf_16 : decode cJ26_valueOf 16 = .ok (.iload_n 0, 1) := dk_26 (dk_at dksJ26_valueOf_0 16 rfl rfl)
theorem dJ26_valueOf_17 : decode cJ26_valueOf 17 = .ok (.sipush 128, 3) := dk_17 0 128 (dk_at dksJ26_valueOf_0 17 rfl rfl)
theorem dJ26_valueOf_20 : decode cJ26_valueOf 20 = .ok (.iadd, 1) := dk_96 (dk_at dksJ26_valueOf_0 20 rfl rfl)
theorem dJ26_valueOf_21 : decode cJ26_valueOf 21 = .ok (.aaload, 1) := dk_50 (dk_at dksJ26_valueOf_0 21 rfl rfl)
theorem dJ26_valueOf_22 : decode cJ26_valueOf 22 = .ok (.areturn, 1) := dk_176 (dk_at dksJ26_valueOf_0 22 rfl rfl)
theorem dJ26_valueOf_23 : decode cJ26_valueOf 23 = .ok (.new 1, 3) := dk_187 0 1 (dk_at dksJ26_valueOf_1 0 rfl rfl)
theorem dJ26_valueOf_26 : decode cJ26_valueOf 26 = .ok (.dup, 1) := dk_89 (dk_at dksJ26_valueOf_1 3 rfl rfl)
theorem dJ26_valueOf_27 : decode cJ26_valueOf 27 = .ok (.iload_n 0, 1) := dk_26 (dk_at dksJ26_valueOf_1 4 rfl rfl)
theorem dJ26_valueOf_28 : decode cJ26_valueOf 28 = .ok (.invokespecial 199, 3) := dk_183 0 199 (dk_at dksJ26_valueOf_1 5 rfl rfl)
theorem dJ26_valueOf_31 : decode cJ26_valueOf 31 = .ok (.areturn, 1) := dk_176 (dk_at dksJ26_valueOf_1 8 rfl rfl)
abbrev cJ26_init : ByteArray := prog_37_method_23_code
def yJ26_init : MethodName := ⟨RJ26, "<init>", "(I)V"⟩
def dkwJ26_init_0 : List UInt8 := [42, 183, 0, 202, 42, 27, 181, 0, 205, 177]
abbrev dktJ26_init_0 : List UInt8 := dkwJ26_init_0 ++ []
theorem dksJ26_init_0 : cJ26_init.data.toList.drop 0 = dktJ26_init_0 := by decide +kernel
theorem dJ26_init_0 : decode cJ26_init 0 = .ok (.aload_n 0, 1) := dk_42 (dk_at dksJ26_init_0 0 rfl rfl)
theorem dJ26_init_1 : decode cJ26_init 1 = .ok (.invokespecial 202, 3) := dk_183 0 202 (dk_at dksJ26_init_0 1 rfl rfl)
theorem dJ26_init_4 : decode cJ26_init 4 = .ok (.aload_n 0, 1) := dk_42 (dk_at dksJ26_init_0 4 rfl rfl)
theorem dJ26_init_5 : decode cJ26_init 5 = .ok (.iload_n 1, 1) := dk_27 (dk_at dksJ26_init_0 5 rfl rfl)
theorem dJ26_init_6 : decode cJ26_init 6 = .ok (.putfield 205, 3) := dk_181 0 205 (dk_at dksJ26_init_0 6 rfl rfl)
theorem dJ26_init_9 : decode cJ26_init 9 = .ok (.return_, 1) := dk_177 (dk_at dksJ26_init_0 9 rfl rfl)
abbrev cJ26_intValue : ByteArray := prog_37_method_27_code
def yJ26_intValue : MethodName := ⟨RJ26, "intValue", "()I"⟩
theorem dJ26_intValue_0 : decode cJ26_intValue 0 = .ok (.aload_n 0, 1) := by decide +kernel
theorem dJ26_intValue_1 : decode cJ26_intValue 1 = .ok (.getfield 205, 3) := by decide +kernel
theorem dJ26_intValue_4 : decode cJ26_intValue 4 = .ok (.ireturn, 1) := by decide +kernel
abbrev cJ26_hashCode : ByteArray := prog_37_method_32_code
def yJ26_hashCode : MethodName := ⟨RJ26, "hashCode", "()I"⟩
def dkwJ26_hashCode_0 : List UInt8 := [42, 180, 0, 205, 184, 0, 208, 172]
abbrev dktJ26_hashCode_0 : List UInt8 := dkwJ26_hashCode_0 ++ []
theorem dksJ26_hashCode_0 : cJ26_hashCode.data.toList.drop 0 = dktJ26_hashCode_0 := by decide +kernel
theorem dJ26_hashCode_0 : decode cJ26_hashCode 0 = .ok (.aload_n 0, 1) := dk_42 (dk_at dksJ26_hashCode_0 0 rfl rfl)
theorem dJ26_hashCode_1 : decode cJ26_hashCode 1 = .ok (.getfield 205, 3) := dk_180 0 205 (dk_at dksJ26_hashCode_0 1 rfl rfl)
theorem dJ26_hashCode_4 : decode cJ26_hashCode 4 = .ok (.invokestatic 208, 3) := dk_184 0 208 (dk_at dksJ26_hashCode_0 4 rfl rfl)
theorem dJ26_hashCode_7 : decode cJ26_hashCode 7 = .ok (.ireturn, 1) := dk_172 (dk_at dksJ26_hashCode_0 7 rfl rfl)
abbrev cJ26_hashCode_2 : ByteArray := prog_37_method_33_code
def yJ26_hashCode_2 : MethodName := ⟨RJ26, "hashCode", "(I)I"⟩
theorem dJ26_hashCode_2_0 : decode cJ26_hashCode_2 0 = .ok (.iload_n 0, 1) := by decide +kernel
theorem dJ26_hashCode_2_1 : decode cJ26_hashCode_2 1 = .ok (.ireturn, 1) := by decide +kernel
abbrev cJ26_equals : ByteArray := prog_37_method_34_code
def yJ26_equals : MethodName := ⟨RJ26, "equals", "(Ljava/lang/Object;)Z"⟩
def dkwJ26_equals_1 : List UInt8 := [167, 0, 4, 3, 172, 3, 172]
abbrev dktJ26_equals_1 : List UInt8 := dkwJ26_equals_1 ++ []
def dkwJ26_equals_0 : List UInt8 := [43, 193, 0, 1, 153, 0, 23, 42, 180, 0, 205, 43, 192, 0, 1, 182, 0, 211, 160, 0, 7, 4]
abbrev dktJ26_equals_0 : List UInt8 := dkwJ26_equals_0 ++ dktJ26_equals_1
theorem dksJ26_equals_0 : cJ26_equals.data.toList.drop 0 = dktJ26_equals_0 := by decide +kernel
theorem dksJ26_equals_1 : cJ26_equals.data.toList.drop 22 = dktJ26_equals_1 := dk_seg dksJ26_equals_0 22 rfl rfl
theorem dJ26_equals_0 : decode cJ26_equals 0 = .ok (.aload_n 1, 1) := dk_43 (dk_at dksJ26_equals_0 0 rfl rfl)
theorem dJ26_equals_1 : decode cJ26_equals 1 = .ok (.instanceof 1, 3) := dk_193 0 1 (dk_at dksJ26_equals_0 1 rfl rfl)
theorem dJ26_equals_4 : decode cJ26_equals 4 = .ok (.ifCond .eq 23, 3) := dk_153 0 23 (dk_at dksJ26_equals_0 4 rfl rfl)
theorem dJ26_equals_7 : decode cJ26_equals 7 = .ok (.aload_n 0, 1) := dk_42 (dk_at dksJ26_equals_0 7 rfl rfl)
theorem dJ26_equals_8 : decode cJ26_equals 8 = .ok (.getfield 205, 3) := dk_180 0 205 (dk_at dksJ26_equals_0 8 rfl rfl)
theorem dJ26_equals_11 : decode cJ26_equals 11 = .ok (.aload_n 1, 1) := dk_43 (dk_at dksJ26_equals_0 11 rfl rfl)
theorem dJ26_equals_12 : decode cJ26_equals 12 = .ok (.checkcast 1, 3) := dk_192 0 1 (dk_at dksJ26_equals_0 12 rfl rfl)
theorem dJ26_equals_15 : decode cJ26_equals 15 = .ok (.invokevirtual 211, 3) := dk_182 0 211 (dk_at dksJ26_equals_0 15 rfl rfl)
theorem dJ26_equals_18 : decode cJ26_equals 18 = .ok (.if_icmp .ne 7, 3) := dk_160 0 7 (dk_at dksJ26_equals_0 18 rfl rfl)
theorem dJ26_equals_21 : decode cJ26_equals 21 = .ok (.iconst 1, 1) := dk_4 (dk_at dksJ26_equals_0 21 rfl rfl)
theorem dJ26_equals_22 : decode cJ26_equals 22 = .ok (.goto 4, 3) := dk_167 0 4 (dk_at dksJ26_equals_1 0 rfl rfl)
theorem dJ26_equals_25 : decode cJ26_equals 25 = .ok (.iconst 0, 1) := dk_3 (dk_at dksJ26_equals_1 3 rfl rfl)
theorem dJ26_equals_26 : decode cJ26_equals 26 = .ok (.ireturn, 1) := dk_172 (dk_at dksJ26_equals_1 4 rfl rfl)
theorem dJ26_equals_27 : decode cJ26_equals 27 = .ok (.iconst 0, 1) := dk_3 (dk_at dksJ26_equals_1 5 rfl rfl)
theorem dJ26_equals_28 : decode cJ26_equals 28 = .ok (.ireturn, 1) := dk_172 (dk_at dksJ26_equals_1 6 rfl rfl)
abbrev cJ26_compareTo : ByteArray := prog_37_method_63_code
def yJ26_compareTo : MethodName := ⟨RJ26, "compareTo", "(Ljava/lang/Object;)I"⟩
def dkwJ26_compareTo_0 : List UInt8 := [42, 43, 192, 0, 1, 182, 1, 28, 172]
abbrev dktJ26_compareTo_0 : List UInt8 := dkwJ26_compareTo_0 ++ []
theorem dksJ26_compareTo_0 : cJ26_compareTo.data.toList.drop 0 = dktJ26_compareTo_0 := by decide +kernel
theorem dJ26_compareTo_0 : decode cJ26_compareTo 0 = .ok (.aload_n 0, 1) := dk_42 (dk_at dksJ26_compareTo_0 0 rfl rfl)
theorem dJ26_compareTo_1 : decode cJ26_compareTo 1 = .ok (.aload_n 1, 1) := dk_43 (dk_at dksJ26_compareTo_0 1 rfl rfl)
theorem dJ26_compareTo_2 : decode cJ26_compareTo 2 = .ok (.checkcast 1, 3) := dk_192 0 1 (dk_at dksJ26_compareTo_0 2 rfl rfl)
theorem dJ26_compareTo_5 : decode cJ26_compareTo 5 = .ok (.invokevirtual 284, 3) := dk_182 1 28 (dk_at dksJ26_compareTo_0 5 rfl rfl)
theorem dJ26_compareTo_8 : decode cJ26_compareTo 8 = .ok (.ireturn, 1) := dk_172 (dk_at dksJ26_compareTo_0 8 rfl rfl)
abbrev cJ26_compareTo_2 : ByteArray := prog_37_method_39_code
def yJ26_compareTo_2 : MethodName := ⟨RJ26, "compareTo", "(Ljava/lang/Integer;)I"⟩
def dkwJ26_compareTo_2_0 : List UInt8 := [42, 180, 0, 205, 43, 180, 0, 205, 184, 1, 3, 172]
abbrev dktJ26_compareTo_2_0 : List UInt8 := dkwJ26_compareTo_2_0 ++ []
theorem dksJ26_compareTo_2_0 : cJ26_compareTo_2.data.toList.drop 0 = dktJ26_compareTo_2_0 := by decide +kernel
theorem dJ26_compareTo_2_0 : decode cJ26_compareTo_2 0 = .ok (.aload_n 0, 1) := dk_42 (dk_at dksJ26_compareTo_2_0 0 rfl rfl)
theorem dJ26_compareTo_2_1 : decode cJ26_compareTo_2 1 = .ok (.getfield 205, 3) := dk_180 0 205 (dk_at dksJ26_compareTo_2_0 1 rfl rfl)
theorem dJ26_compareTo_2_4 : decode cJ26_compareTo_2 4 = .ok (.aload_n 1, 1) := dk_43 (dk_at dksJ26_compareTo_2_0 4 rfl rfl)
theorem dJ26_compareTo_2_5 : decode cJ26_compareTo_2 5 = .ok (.getfield 205, 3) := dk_180 0 205 (dk_at dksJ26_compareTo_2_0 5 rfl rfl)
theorem dJ26_compareTo_2_8 : decode cJ26_compareTo_2 8 = .ok (.invokestatic 259, 3) := dk_184 1 3 (dk_at dksJ26_compareTo_2_0 8 rfl rfl)
theorem dJ26_compareTo_2_11 : decode cJ26_compareTo_2 11 = .ok (.ireturn, 1) := dk_172 (dk_at dksJ26_compareTo_2_0 11 rfl rfl)
abbrev cJ26_compare : ByteArray := prog_37_method_40_code
def yJ26_compare : MethodName := ⟨RJ26, "compare", "(II)I"⟩
def dkwJ26_compare_0 : List UInt8 := [26, 27, 162, 0, 7, 2, 167, 0, 13, 26, 27, 160, 0, 7, 3, 167, 0, 4, 4, 172]
abbrev dktJ26_compare_0 : List UInt8 := dkwJ26_compare_0 ++ []
theorem dksJ26_compare_0 : cJ26_compare.data.toList.drop 0 = dktJ26_compare_0 := by decide +kernel
theorem dJ26_compare_0 : decode cJ26_compare 0 = .ok (.iload_n 0, 1) := dk_26 (dk_at dksJ26_compare_0 0 rfl rfl)
theorem dJ26_compare_1 : decode cJ26_compare 1 = .ok (.iload_n 1, 1) := dk_27 (dk_at dksJ26_compare_0 1 rfl rfl)
theorem dJ26_compare_2 : decode cJ26_compare 2 = .ok (.if_icmp .ge 7, 3) := dk_162 0 7 (dk_at dksJ26_compare_0 2 rfl rfl)
theorem dJ26_compare_5 : decode cJ26_compare 5 = .ok (.iconst (-1), 1) := dk_2 (dk_at dksJ26_compare_0 5 rfl rfl)
theorem dJ26_compare_6 : decode cJ26_compare 6 = .ok (.goto 13, 3) := dk_167 0 13 (dk_at dksJ26_compare_0 6 rfl rfl)
theorem dJ26_compare_9 : decode cJ26_compare 9 = .ok (.iload_n 0, 1) := dk_26 (dk_at dksJ26_compare_0 9 rfl rfl)
theorem dJ26_compare_10 : decode cJ26_compare 10 = .ok (.iload_n 1, 1) := dk_27 (dk_at dksJ26_compare_0 10 rfl rfl)
theorem dJ26_compare_11 : decode cJ26_compare 11 = .ok (.if_icmp .ne 7, 3) := dk_160 0 7 (dk_at dksJ26_compare_0 11 rfl rfl)
theorem dJ26_compare_14 : decode cJ26_compare 14 = .ok (.iconst 0, 1) := dk_3 (dk_at dksJ26_compare_0 14 rfl rfl)
theorem dJ26_compare_15 : decode cJ26_compare 15 = .ok (.goto 4, 3) := dk_167 0 4 (dk_at dksJ26_compare_0 15 rfl rfl)
theorem dJ26_compare_18 : decode cJ26_compare 18 = .ok (.iconst 1, 1) := dk_4 (dk_at dksJ26_compare_0 18 rfl rfl)
theorem dJ26_compare_19 : decode cJ26_compare 19 = .ok (.ireturn, 1) := dk_172 (dk_at dksJ26_compare_0 19 rfl rfl)
abbrev cJ26_numberOfLeadingZeros : ByteArray := prog_37_method_47_code
def yJ26_numberOfLeadingZeros : MethodName := ⟨RJ26, "numberOfLeadingZeros", "(I)I"⟩
def dkwJ26_numberOfLeadingZeros_3 : List UInt8 := [5, 124, 59, 27, 26, 4, 124, 100, 172]
abbrev dktJ26_numberOfLeadingZeros_3 : List UInt8 := dkwJ26_numberOfLeadingZeros_3 ++ []
def dkwJ26_numberOfLeadingZeros_2 : List UInt8 := [124, 59, 26, 16, 16, 161, 0, 10, 132, 1, 252, 26, 7, 124, 59, 26, 7, 161, 0, 10, 132, 1, 254, 26]
abbrev dktJ26_numberOfLeadingZeros_2 : List UInt8 := dkwJ26_numberOfLeadingZeros_2 ++ dktJ26_numberOfLeadingZeros_3
def dkwJ26_numberOfLeadingZeros_1 : List UInt8 := [161, 0, 11, 132, 1, 240, 26, 16, 16, 124, 59, 26, 17, 1, 0, 161, 0, 11, 132, 1, 248, 26, 16, 8]
abbrev dktJ26_numberOfLeadingZeros_1 : List UInt8 := dkwJ26_numberOfLeadingZeros_1 ++ dktJ26_numberOfLeadingZeros_2
def dkwJ26_numberOfLeadingZeros_0 : List UInt8 := [26, 157, 0, 14, 26, 154, 0, 8, 16, 32, 167, 0, 4, 3, 172, 16, 31, 60, 26, 19, 1, 8]
abbrev dktJ26_numberOfLeadingZeros_0 : List UInt8 := dkwJ26_numberOfLeadingZeros_0 ++ dktJ26_numberOfLeadingZeros_1
theorem dksJ26_numberOfLeadingZeros_0 : cJ26_numberOfLeadingZeros.data.toList.drop 0 = dktJ26_numberOfLeadingZeros_0 := by decide +kernel
theorem dksJ26_numberOfLeadingZeros_1 : cJ26_numberOfLeadingZeros.data.toList.drop 22 = dktJ26_numberOfLeadingZeros_1 := dk_seg dksJ26_numberOfLeadingZeros_0 22 rfl rfl
theorem dksJ26_numberOfLeadingZeros_2 : cJ26_numberOfLeadingZeros.data.toList.drop 46 = dktJ26_numberOfLeadingZeros_2 := dk_seg dksJ26_numberOfLeadingZeros_1 24 rfl rfl
theorem dksJ26_numberOfLeadingZeros_3 : cJ26_numberOfLeadingZeros.data.toList.drop 70 = dktJ26_numberOfLeadingZeros_3 := dk_seg dksJ26_numberOfLeadingZeros_2 24 rfl rfl
theorem dJ26_numberOfLeadingZeros_0 : decode cJ26_numberOfLeadingZeros 0 = .ok (.iload_n 0, 1) := dk_26 (dk_at dksJ26_numberOfLeadingZeros_0 0 rfl rfl)
theorem dJ26_numberOfLeadingZeros_1 : decode cJ26_numberOfLeadingZeros 1 = .ok (.ifCond .gt 14, 3) := dk_157 0 14 (dk_at dksJ26_numberOfLeadingZeros_0 1 rfl rfl)
theorem dJ26_numberOfLeadingZeros_4 : decode cJ26_numberOfLeadingZeros 4 = .ok (.iload_n 0, 1) := dk_26 (dk_at dksJ26_numberOfLeadingZeros_0 4 rfl rfl)
theorem dJ26_numberOfLeadingZeros_5 : decode cJ26_numberOfLeadingZeros 5 = .ok (.ifCond .ne 8, 3) := dk_154 0 8 (dk_at dksJ26_numberOfLeadingZeros_0 5 rfl rfl)
theorem dJ26_numberOfLeadingZeros_8 : decode cJ26_numberOfLeadingZeros 8 = .ok (.bipush 32, 2) := dk_16 32 (dk_at dksJ26_numberOfLeadingZeros_0 8 rfl rfl)
theorem dJ26_numberOfLeadingZeros_10 : decode cJ26_numberOfLeadingZeros 10 = .ok (.goto 4, 3) := dk_167 0 4 (dk_at dksJ26_numberOfLeadingZeros_0 10 rfl rfl)
theorem dJ26_numberOfLeadingZeros_13 : decode cJ26_numberOfLeadingZeros 13 = .ok (.iconst 0, 1) := dk_3 (dk_at dksJ26_numberOfLeadingZeros_0 13 rfl rfl)
theorem dJ26_numberOfLeadingZeros_14 : decode cJ26_numberOfLeadingZeros 14 = .ok (.ireturn, 1) := dk_172 (dk_at dksJ26_numberOfLeadingZeros_0 14 rfl rfl)
theorem dJ26_numberOfLeadingZeros_15 : decode cJ26_numberOfLeadingZeros 15 = .ok (.bipush 31, 2) := dk_16 31 (dk_at dksJ26_numberOfLeadingZeros_0 15 rfl rfl)
theorem dJ26_numberOfLeadingZeros_17 : decode cJ26_numberOfLeadingZeros 17 = .ok (.istore_n 1, 1) := dk_60 (dk_at dksJ26_numberOfLeadingZeros_0 17 rfl rfl)
theorem dJ26_numberOfLeadingZeros_18 : decode cJ26_numberOfLeadingZeros 18 = .ok (.iload_n 0, 1) := dk_26 (dk_at dksJ26_numberOfLeadingZeros_0 18 rfl rfl)
theorem dJ26_numberOfLeadingZeros_19 : decode cJ26_numberOfLeadingZeros 19 = .ok (.ldc_w 264, 3) := dk_19 1 8 (dk_at dksJ26_numberOfLeadingZeros_0 19 rfl rfl)
theorem dJ26_numberOfLeadingZeros_22 : decode cJ26_numberOfLeadingZeros 22 = .ok (.if_icmp .lt 11, 3) := dk_161 0 11 (dk_at dksJ26_numberOfLeadingZeros_1 0 rfl rfl)
theorem dJ26_numberOfLeadingZeros_25 : decode cJ26_numberOfLeadingZeros 25 = .ok (.iinc 1 (-16), 3) := dk_132 1 240 (dk_at dksJ26_numberOfLeadingZeros_1 3 rfl rfl)
theorem dJ26_numberOfLeadingZeros_28 : decode cJ26_numberOfLeadingZeros 28 = .ok (.iload_n 0, 1) := dk_26 (dk_at dksJ26_numberOfLeadingZeros_1 6 rfl rfl)
theorem dJ26_numberOfLeadingZeros_29 : decode cJ26_numberOfLeadingZeros 29 = .ok (.bipush 16, 2) := dk_16 16 (dk_at dksJ26_numberOfLeadingZeros_1 7 rfl rfl)
theorem dJ26_numberOfLeadingZeros_31 : decode cJ26_numberOfLeadingZeros 31 = .ok (.iushr, 1) := dk_124 (dk_at dksJ26_numberOfLeadingZeros_1 9 rfl rfl)
theorem dJ26_numberOfLeadingZeros_32 : decode cJ26_numberOfLeadingZeros 32 = .ok (.istore_n 0, 1) := dk_59 (dk_at dksJ26_numberOfLeadingZeros_1 10 rfl rfl)
theorem dJ26_numberOfLeadingZeros_33 : decode cJ26_numberOfLeadingZeros 33 = .ok (.iload_n 0, 1) := dk_26 (dk_at dksJ26_numberOfLeadingZeros_1 11 rfl rfl)
theorem dJ26_numberOfLeadingZeros_34 : decode cJ26_numberOfLeadingZeros 34 = .ok (.sipush 256, 3) := dk_17 1 0 (dk_at dksJ26_numberOfLeadingZeros_1 12 rfl rfl)
theorem dJ26_numberOfLeadingZeros_37 : decode cJ26_numberOfLeadingZeros 37 = .ok (.if_icmp .lt 11, 3) := dk_161 0 11 (dk_at dksJ26_numberOfLeadingZeros_1 15 rfl rfl)
theorem dJ26_numberOfLeadingZeros_40 : decode cJ26_numberOfLeadingZeros 40 = .ok (.iinc 1 (-8), 3) := dk_132 1 248 (dk_at dksJ26_numberOfLeadingZeros_1 18 rfl rfl)
theorem dJ26_numberOfLeadingZeros_43 : decode cJ26_numberOfLeadingZeros 43 = .ok (.iload_n 0, 1) := dk_26 (dk_at dksJ26_numberOfLeadingZeros_1 21 rfl rfl)
theorem dJ26_numberOfLeadingZeros_44 : decode cJ26_numberOfLeadingZeros 44 = .ok (.bipush 8, 2) := dk_16 8 (dk_at dksJ26_numberOfLeadingZeros_1 22 rfl rfl)
theorem dJ26_numberOfLeadingZeros_46 : decode cJ26_numberOfLeadingZeros 46 = .ok (.iushr, 1) := dk_124 (dk_at dksJ26_numberOfLeadingZeros_2 0 rfl rfl)
theorem dJ26_numberOfLeadingZeros_47 : decode cJ26_numberOfLeadingZeros 47 = .ok (.istore_n 0, 1) := dk_59 (dk_at dksJ26_numberOfLeadingZeros_2 1 rfl rfl)
theorem dJ26_numberOfLeadingZeros_48 : decode cJ26_numberOfLeadingZeros 48 = .ok (.iload_n 0, 1) := dk_26 (dk_at dksJ26_numberOfLeadingZeros_2 2 rfl rfl)
theorem dJ26_numberOfLeadingZeros_49 : decode cJ26_numberOfLeadingZeros 49 = .ok (.bipush 16, 2) := dk_16 16 (dk_at dksJ26_numberOfLeadingZeros_2 3 rfl rfl)
theorem dJ26_numberOfLeadingZeros_51 : decode cJ26_numberOfLeadingZeros 51 = .ok (.if_icmp .lt 10, 3) := dk_161 0 10 (dk_at dksJ26_numberOfLeadingZeros_2 5 rfl rfl)
theorem dJ26_numberOfLeadingZeros_54 : decode cJ26_numberOfLeadingZeros 54 = .ok (.iinc 1 (-4), 3) := dk_132 1 252 (dk_at dksJ26_numberOfLeadingZeros_2 8 rfl rfl)
theorem dJ26_numberOfLeadingZeros_57 : decode cJ26_numberOfLeadingZeros 57 = .ok (.iload_n 0, 1) := dk_26 (dk_at dksJ26_numberOfLeadingZeros_2 11 rfl rfl)
theorem dJ26_numberOfLeadingZeros_58 : decode cJ26_numberOfLeadingZeros 58 = .ok (.iconst 4, 1) := dk_7 (dk_at dksJ26_numberOfLeadingZeros_2 12 rfl rfl)
theorem dJ26_numberOfLeadingZeros_59 : decode cJ26_numberOfLeadingZeros 59 = .ok (.iushr, 1) := dk_124 (dk_at dksJ26_numberOfLeadingZeros_2 13 rfl rfl)
theorem dJ26_numberOfLeadingZeros_60 : decode cJ26_numberOfLeadingZeros 60 = .ok (.istore_n 0, 1) := dk_59 (dk_at dksJ26_numberOfLeadingZeros_2 14 rfl rfl)
theorem dJ26_numberOfLeadingZeros_61 : decode cJ26_numberOfLeadingZeros 61 = .ok (.iload_n 0, 1) := dk_26 (dk_at dksJ26_numberOfLeadingZeros_2 15 rfl rfl)
theorem dJ26_numberOfLeadingZeros_62 : decode cJ26_numberOfLeadingZeros 62 = .ok (.iconst 4, 1) := dk_7 (dk_at dksJ26_numberOfLeadingZeros_2 16 rfl rfl)
theorem dJ26_numberOfLeadingZeros_63 : decode cJ26_numberOfLeadingZeros 63 = .ok (.if_icmp .lt 10, 3) := dk_161 0 10 (dk_at dksJ26_numberOfLeadingZeros_2 17 rfl rfl)
theorem dJ26_numberOfLeadingZeros_66 : decode cJ26_numberOfLeadingZeros 66 = .ok (.iinc 1 (-2), 3) := dk_132 1 254 (dk_at dksJ26_numberOfLeadingZeros_2 20 rfl rfl)
theorem dJ26_numberOfLeadingZeros_69 : decode cJ26_numberOfLeadingZeros 69 = .ok (.iload_n 0, 1) := dk_26 (dk_at dksJ26_numberOfLeadingZeros_2 23 rfl rfl)
theorem dJ26_numberOfLeadingZeros_70 : decode cJ26_numberOfLeadingZeros 70 = .ok (.iconst 2, 1) := dk_5 (dk_at dksJ26_numberOfLeadingZeros_3 0 rfl rfl)
theorem dJ26_numberOfLeadingZeros_71 : decode cJ26_numberOfLeadingZeros 71 = .ok (.iushr, 1) := dk_124 (dk_at dksJ26_numberOfLeadingZeros_3 1 rfl rfl)
theorem dJ26_numberOfLeadingZeros_72 : decode cJ26_numberOfLeadingZeros 72 = .ok (.istore_n 0, 1) := dk_59 (dk_at dksJ26_numberOfLeadingZeros_3 2 rfl rfl)
theorem dJ26_numberOfLeadingZeros_73 : decode cJ26_numberOfLeadingZeros 73 = .ok (.iload_n 1, 1) := dk_27 (dk_at dksJ26_numberOfLeadingZeros_3 3 rfl rfl)
theorem dJ26_numberOfLeadingZeros_74 : decode cJ26_numberOfLeadingZeros 74 = .ok (.iload_n 0, 1) := dk_26 (dk_at dksJ26_numberOfLeadingZeros_3 4 rfl rfl)
theorem dJ26_numberOfLeadingZeros_75 : decode cJ26_numberOfLeadingZeros 75 = .ok (.iconst 1, 1) := dk_4 (dk_at dksJ26_numberOfLeadingZeros_3 5 rfl rfl)
theorem dJ26_numberOfLeadingZeros_76 : decode cJ26_numberOfLeadingZeros 76 = .ok (.iushr, 1) := dk_124 (dk_at dksJ26_numberOfLeadingZeros_3 6 rfl rfl)
theorem dJ26_numberOfLeadingZeros_77 : decode cJ26_numberOfLeadingZeros 77 = .ok (.isub, 1) := dk_100 (dk_at dksJ26_numberOfLeadingZeros_3 7 rfl rfl)
theorem dJ26_numberOfLeadingZeros_78 : decode cJ26_numberOfLeadingZeros 78 = .ok (.ireturn, 1) := dk_172 (dk_at dksJ26_numberOfLeadingZeros_3 8 rfl rfl)
theorem q111 : (Jvm.Cond.initialized "java/lang/Integer") ∈ lw_all := lw_g (lw_at lw_m1 35 rfl) rfl
theorem q546 : (Jvm.Cond.static ({ cls := "java/lang/Integer", name := "stringSize", desc := "(I)I" } : Jvm.MethodName)) ∈ lw_all := lw_g (lw_at lw_m2 230 rfl) rfl
theorem q547 : (Jvm.Cond.code ({ cls := "java/lang/Integer", name := "stringSize", desc := "(I)I" } : Jvm.MethodName) prog_37_method_13_code (4 : Nat) (Option.some Jvm.ClassFile.FieldType.int)) ∈ lw_all := lw_g (lw_at lw_m2 231 rfl) rfl
theorem q549 : (Jvm.Cond.static ({ cls := "java/lang/Integer", name := "getChars", desc := "(II[B)I" } : Jvm.MethodName)) ∈ lw_all := lw_g (lw_at lw_m2 233 rfl) rfl
theorem q550 : (Jvm.Cond.code ({ cls := "java/lang/Integer", name := "getChars", desc := "(II[B)I" } : Jvm.MethodName) prog_37_method_12_code (7 : Nat) (Option.some Jvm.ClassFile.FieldType.int)) ∈ lw_all := lw_g (lw_at lw_m2 234 rfl) rfl
theorem q551 : (Jvm.Cond.fieldLink "java/lang/Integer" (83 : Nat) "java/lang/Integer" "DigitOnes" "[B") ∈ lw_all := lw_g (lw_at lw_m2 235 rfl) rfl
theorem q552 : (Jvm.Cond.laysStatic "java/lang/Integer" "DigitOnes" "[B") ∈ lw_tbl := lw_at lw_m2 236 rfl
theorem q553 : (Jvm.Cond.fieldLink "java/lang/Integer" (87 : Nat) "java/lang/Integer" "DigitTens" "[B") ∈ lw_all := lw_g (lw_at lw_m2 237 rfl) rfl
theorem q554 : (Jvm.Cond.laysStatic "java/lang/Integer" "DigitTens" "[B") ∈ lw_tbl := lw_at lw_m2 238 rfl
theorem q682 : (Jvm.Cond.static ({ cls := "java/lang/Integer", name := "numberOfTrailingZeros", desc := "(I)I" } : Jvm.MethodName)) ∈ lw_all := lw_g (lw_at lw_m3 126 rfl) rfl
theorem q683 : (Jvm.Cond.code ({ cls := "java/lang/Integer", name := "numberOfTrailingZeros", desc := "(I)I" } : Jvm.MethodName) prog_37_method_48_code (2 : Nat) (Option.some Jvm.ClassFile.FieldType.int)) ∈ lw_all := lw_g (lw_at lw_m3 127 rfl) rfl
theorem q684 : (Jvm.Cond.constant "java/lang/Integer" (264 : Nat) (65536 : Int32)) ∈ lw_all := lw_g (lw_at lw_m3 128 rfl) rfl
theorem q686 : (Jvm.Cond.static ({ cls := "java/lang/Integer", name := "valueOf", desc := "(I)Ljava/lang/Integer;" } : Jvm.MethodName)) ∈ lw_all := lw_g (lw_at lw_m3 130 rfl) rfl
theorem q687 : (Jvm.Cond.code ({ cls := "java/lang/Integer", name := "valueOf", desc := "(I)Ljava/lang/Integer;" } : Jvm.MethodName) prog_37_method_22_code (1 : Nat) (Option.some (Jvm.ClassFile.FieldType.object "java/lang/Integer"))) ∈ lw_all := lw_g (lw_at lw_m3 131 rfl) rfl
theorem q688 : (Jvm.Cond.fieldLink "java/lang/Integer" (191 : Nat) "java/lang/Integer$IntegerCache" "high" "I") ∈ lw_all := lw_g (lw_at lw_m3 132 rfl) rfl
theorem q690 : (Jvm.Cond.fieldLink "java/lang/Integer" (195 : Nat) "java/lang/Integer$IntegerCache" "cache" "[Ljava/lang/Integer;") ∈ lw_all := lw_g (lw_at lw_m3 134 rfl) rfl
theorem q692 : (Jvm.Cond.classLink "java/lang/Integer" (1 : Nat) "java/lang/Integer") ∈ lw_all := lw_g (lw_at lw_m3 136 rfl) rfl
theorem q693 : (Jvm.Cond.instantiable "java/lang/Integer" (1 : Nat)) ∈ lw_all := lw_g (lw_at lw_m3 137 rfl) rfl
theorem q694 : (Jvm.Cond.methodLink "java/lang/Integer" (199 : Nat) ({ cls := "java/lang/Integer", name := "<init>", desc := "(I)V" } : Jvm.MethodName)) ∈ lw_all := lw_g (lw_at lw_m3 138 rfl) rfl
theorem q695 : (Jvm.Cond.instanceMethod ({ cls := "java/lang/Integer", name := "<init>", desc := "(I)V" } : Jvm.MethodName)) ∈ lw_all := lw_g (lw_at lw_m3 139 rfl) rfl
theorem q696 : (Jvm.Cond.code ({ cls := "java/lang/Integer", name := "<init>", desc := "(I)V" } : Jvm.MethodName) prog_37_method_23_code (2 : Nat) (Option.none : Option Jvm.ClassFile.FieldType)) ∈ lw_all := lw_g (lw_at lw_m3 140 rfl) rfl
theorem q697 : (Jvm.Cond.methodLink "java/lang/Integer" (202 : Nat) ({ cls := "java/lang/Number", name := "<init>", desc := "()V" } : Jvm.MethodName)) ∈ lw_all := lw_g (lw_at lw_m3 141 rfl) rfl
theorem q701 : (Jvm.Cond.fieldLink "java/lang/Integer" (205 : Nat) "java/lang/Integer" "value" "I") ∈ lw_all := lw_g (lw_at lw_m3 145 rfl) rfl
theorem q702 : (Jvm.Cond.laysFinal "java/lang/Integer" "java/lang/Integer" "value" "I") ∈ lw_all := lw_g (lw_at lw_m3 146 rfl) rfl
theorem q703 : (Jvm.Cond.soleField "java/lang/Integer" "value") ∈ lw_all := lw_g (lw_at lw_m3 147 rfl) rfl
theorem q704 : (Jvm.Cond.superclass "java/lang/Integer" "java/lang/Number") ∈ lw_all := lw_g (lw_at lw_m3 148 rfl) rfl
theorem q759 : (Jvm.Cond.selects "java/lang/Integer" ({ cls := "java/lang/Object", name := "getClass", desc := "()Ljava/lang/Class;" } : Jvm.MethodName) ({ cls := "java/lang/Object", name := "getClass", desc := "()Ljava/lang/Class;" } : Jvm.MethodName)) ∈ lw_all := lw_g (lw_at lw_m3 203 rfl) rfl
theorem q1052 : (Jvm.Cond.instanceMethod ({ cls := "java/lang/Integer", name := "intValue", desc := "()I" } : Jvm.MethodName)) ∈ lw_all := lw_g (lw_at lw_m5 16 rfl) rfl
theorem q1053 : (Jvm.Cond.selects "java/lang/Integer" ({ cls := "java/lang/Integer", name := "intValue", desc := "()I" } : Jvm.MethodName) ({ cls := "java/lang/Integer", name := "intValue", desc := "()I" } : Jvm.MethodName)) ∈ lw_all := lw_g (lw_at lw_m5 17 rfl) rfl
theorem q1054 : (Jvm.Cond.code ({ cls := "java/lang/Integer", name := "intValue", desc := "()I" } : Jvm.MethodName) prog_37_method_27_code (1 : Nat) (Option.some Jvm.ClassFile.FieldType.int)) ∈ lw_all := lw_g (lw_at lw_m5 18 rfl) rfl
theorem q1291 : (Jvm.Cond.selects "java/lang/Integer" ({ cls := "java/lang/Object", name := "hashCode", desc := "()I" } : Jvm.MethodName) ({ cls := "java/lang/Integer", name := "hashCode", desc := "()I" } : Jvm.MethodName)) ∈ lw_all := lw_g (lw_at lw_m6 15 rfl) rfl
theorem q1292 : (Jvm.Cond.instanceMethod ({ cls := "java/lang/Integer", name := "hashCode", desc := "()I" } : Jvm.MethodName)) ∈ lw_all := lw_g (lw_at lw_m6 16 rfl) rfl
theorem q1293 : (Jvm.Cond.code ({ cls := "java/lang/Integer", name := "hashCode", desc := "()I" } : Jvm.MethodName) prog_37_method_32_code (1 : Nat) (Option.some Jvm.ClassFile.FieldType.int)) ∈ lw_all := lw_g (lw_at lw_m6 17 rfl) rfl
theorem q1294 : (Jvm.Cond.methodLink "java/lang/Integer" (208 : Nat) ({ cls := "java/lang/Integer", name := "hashCode", desc := "(I)I" } : Jvm.MethodName)) ∈ lw_all := lw_g (lw_at lw_m6 18 rfl) rfl
theorem q1295 : (Jvm.Cond.static ({ cls := "java/lang/Integer", name := "hashCode", desc := "(I)I" } : Jvm.MethodName)) ∈ lw_all := lw_g (lw_at lw_m6 19 rfl) rfl
theorem q1296 : (Jvm.Cond.code ({ cls := "java/lang/Integer", name := "hashCode", desc := "(I)I" } : Jvm.MethodName) prog_37_method_33_code (1 : Nat) (Option.some Jvm.ClassFile.FieldType.int)) ∈ lw_all := lw_g (lw_at lw_m6 20 rfl) rfl
theorem q1392 : (Jvm.Cond.selects "java/lang/Integer" ({ cls := "java/lang/Object", name := "equals", desc := "(Ljava/lang/Object;)Z" } : Jvm.MethodName) ({ cls := "java/lang/Integer", name := "equals", desc := "(Ljava/lang/Object;)Z" } : Jvm.MethodName)) ∈ lw_all := lw_g (lw_at lw_m6 116 rfl) rfl
theorem q1393 : (Jvm.Cond.instanceMethod ({ cls := "java/lang/Integer", name := "equals", desc := "(Ljava/lang/Object;)Z" } : Jvm.MethodName)) ∈ lw_all := lw_g (lw_at lw_m6 117 rfl) rfl
theorem q1394 : (Jvm.Cond.code ({ cls := "java/lang/Integer", name := "equals", desc := "(Ljava/lang/Object;)Z" } : Jvm.MethodName) prog_37_method_34_code (2 : Nat) (Option.some Jvm.ClassFile.FieldType.boolean)) ∈ lw_all := lw_g (lw_at lw_m6 118 rfl) rfl
theorem q1395 : (Jvm.Cond.methodLink "java/lang/Integer" (211 : Nat) ({ cls := "java/lang/Integer", name := "intValue", desc := "()I" } : Jvm.MethodName)) ∈ lw_all := lw_g (lw_at lw_m6 119 rfl) rfl
theorem q1435 : (Jvm.Cond.castable "java/lang/Integer" "java/lang/Comparable") ∈ lw_tbl := lw_at lw_m6 159 rfl
theorem q1436 : (Jvm.Cond.selects "java/lang/Integer" ({ cls := "java/lang/Comparable", name := "compareTo", desc := "(Ljava/lang/Object;)I" } : Jvm.MethodName) ({ cls := "java/lang/Integer", name := "compareTo", desc := "(Ljava/lang/Object;)I" } : Jvm.MethodName)) ∈ lw_all := lw_g (lw_at lw_m6 160 rfl) rfl
theorem q1437 : (Jvm.Cond.unhidden "java/lang/Integer" "compareTo" "(Ljava/lang/Object;)I") ∈ lw_tbl := lw_at lw_m6 161 rfl
theorem q1438 : (Jvm.Cond.instanceMethod ({ cls := "java/lang/Integer", name := "compareTo", desc := "(Ljava/lang/Object;)I" } : Jvm.MethodName)) ∈ lw_all := lw_g (lw_at lw_m6 162 rfl) rfl
theorem q1439 : (Jvm.Cond.publicMethod ({ cls := "java/lang/Integer", name := "compareTo", desc := "(Ljava/lang/Object;)I" } : Jvm.MethodName)) ∈ lw_tbl := lw_at lw_m6 163 rfl
theorem q1440 : (Jvm.Cond.code ({ cls := "java/lang/Integer", name := "compareTo", desc := "(Ljava/lang/Object;)I" } : Jvm.MethodName) prog_37_method_63_code (2 : Nat) (Option.some Jvm.ClassFile.FieldType.int)) ∈ lw_all := lw_g (lw_at lw_m6 164 rfl) rfl
theorem q1441 : (Jvm.Cond.methodLink "java/lang/Integer" (284 : Nat) ({ cls := "java/lang/Integer", name := "compareTo", desc := "(Ljava/lang/Integer;)I" } : Jvm.MethodName)) ∈ lw_all := lw_g (lw_at lw_m6 165 rfl) rfl
theorem q1442 : (Jvm.Cond.instanceMethod ({ cls := "java/lang/Integer", name := "compareTo", desc := "(Ljava/lang/Integer;)I" } : Jvm.MethodName)) ∈ lw_all := lw_g (lw_at lw_m6 166 rfl) rfl
theorem q1443 : (Jvm.Cond.selects "java/lang/Integer" ({ cls := "java/lang/Integer", name := "compareTo", desc := "(Ljava/lang/Integer;)I" } : Jvm.MethodName) ({ cls := "java/lang/Integer", name := "compareTo", desc := "(Ljava/lang/Integer;)I" } : Jvm.MethodName)) ∈ lw_all := lw_g (lw_at lw_m6 167 rfl) rfl
theorem q1444 : (Jvm.Cond.code ({ cls := "java/lang/Integer", name := "compareTo", desc := "(Ljava/lang/Integer;)I" } : Jvm.MethodName) prog_37_method_39_code (2 : Nat) (Option.some Jvm.ClassFile.FieldType.int)) ∈ lw_all := lw_g (lw_at lw_m6 168 rfl) rfl
theorem q1445 : (Jvm.Cond.methodLink "java/lang/Integer" (259 : Nat) ({ cls := "java/lang/Integer", name := "compare", desc := "(II)I" } : Jvm.MethodName)) ∈ lw_all := lw_g (lw_at lw_m6 169 rfl) rfl
theorem q1446 : (Jvm.Cond.static ({ cls := "java/lang/Integer", name := "compare", desc := "(II)I" } : Jvm.MethodName)) ∈ lw_all := lw_g (lw_at lw_m6 170 rfl) rfl
theorem q1447 : (Jvm.Cond.code ({ cls := "java/lang/Integer", name := "compare", desc := "(II)I" } : Jvm.MethodName) prog_37_method_40_code (2 : Nat) (Option.some Jvm.ClassFile.FieldType.int)) ∈ lw_all := lw_g (lw_at lw_m6 171 rfl) rfl
theorem q1537 : (Jvm.Cond.static ({ cls := "java/lang/Integer", name := "numberOfLeadingZeros", desc := "(I)I" } : Jvm.MethodName)) ∈ lw_all := lw_g (lw_at lw_m7 21 rfl) rfl
theorem q1538 : (Jvm.Cond.code ({ cls := "java/lang/Integer", name := "numberOfLeadingZeros", desc := "(I)I" } : Jvm.MethodName) prog_37_method_47_code (2 : Nat) (Option.some Jvm.ClassFile.FieldType.int)) ∈ lw_all := lw_g (lw_at lw_m7 22 rfl) rfl
theorem q3701 : (Jvm.Cond.castable "java/lang/Integer" "java/lang/Object") ∈ lw_tbl := lw_at lw_m16 25 rfl
theorem in_J26 : ∀ w ∈ wsJ260, w ∈ lw_all := lw_in wsJ260 [702] (by decide +kernel) (by decide +kernel)
/-! java/lang/IllegalArgumentException -/
def RJ27 : String := "java/lang/IllegalArgumentException"
def TJ27 : u_T := fun k => match k with
  | 0 => ("java/lang/Throwable", "cause", "Ljava/lang/Throwable;", false)
  | 1 => ("java/lang/Throwable", "stackTrace", "[Ljava/lang/StackTraceElement;", false)
  | 2 => ("java/lang/Throwable", "suppressedExceptions", "Ljava/util/List;", false)
  | 3 => ("java/lang/Throwable", "detailMessage", "Ljava/lang/String;", false)
  | 4 => ("java/lang/Throwable", "backtrace", "Ljava/lang/Object;", false)
  | _ => ("java/lang/Throwable", "depth", "I", false)
def tyJ27 : Nat → FieldType := fun k => match k with
  | 0 => .object "java/lang/Throwable"
  | 1 => .array (.object "java/lang/StackTraceElement")
  | 2 => .object "java/util/List"
  | 3 => .object "java/lang/String"
  | 4 => .object "java/lang/Object"
  | _ => .int
abbrev wsJ270 : List Cond := u_ws RJ27 TJ27 6
theorem nmJ27 : ∀ a, a < 6 → ∀ b, b < 6 → a ≠ b → (TJ27 a).2.1 ≠ (TJ27 b).2.1 := by decide +kernel
theorem tyJ27_ok : ∀ k, k < 6 → parseFieldDescriptor (TJ27 k).2.2.1 = some (tyJ27 k) := by decide +kernel
abbrev cJ27_init : ByteArray := prog_34_method_2_code
def yJ27_init : MethodName := ⟨RJ27, "<init>", "(Ljava/lang/String;)V"⟩
def dkwJ27_init_0 : List UInt8 := [42, 43, 183, 0, 7, 177]
abbrev dktJ27_init_0 : List UInt8 := dkwJ27_init_0 ++ []
theorem dksJ27_init_0 : cJ27_init.data.toList.drop 0 = dktJ27_init_0 := by decide +kernel
theorem dJ27_init_0 : decode cJ27_init 0 = .ok (.aload_n 0, 1) := dk_42 (dk_at dksJ27_init_0 0 rfl rfl)
theorem dJ27_init_1 : decode cJ27_init 1 = .ok (.aload_n 1, 1) := dk_43 (dk_at dksJ27_init_0 1 rfl rfl)
theorem dJ27_init_2 : decode cJ27_init 2 = .ok (.invokespecial 7, 3) := dk_183 0 7 (dk_at dksJ27_init_0 2 rfl rfl)
theorem dJ27_init_5 : decode cJ27_init 5 = .ok (.return_, 1) := dk_177 (dk_at dksJ27_init_0 5 rfl rfl)
abbrev cJ27_init_2 : ByteArray := prog_34_method_1_code
def yJ27_init_2 : MethodName := ⟨RJ27, "<init>", "()V"⟩
theorem dJ27_init_2_0 : decode cJ27_init_2 0 = .ok (.aload_n 0, 1) := by decide +kernel
theorem dJ27_init_2_1 : decode cJ27_init_2 1 = .ok (.invokespecial 1, 3) := by decide +kernel
theorem dJ27_init_2_4 : decode cJ27_init_2 4 = .ok (.return_, 1) := by decide +kernel
theorem q112 : (Jvm.Cond.initialized "java/lang/IllegalArgumentException") ∈ lw_all := lw_g (lw_at lw_m1 36 rfl) rfl
theorem q374 : (Jvm.Cond.selects "java/lang/IllegalArgumentException" ({ cls := "java/lang/Throwable", name := "fillInStackTrace", desc := "()Ljava/lang/Throwable;" } : Jvm.MethodName) ({ cls := "java/lang/Throwable", name := "fillInStackTrace", desc := "()Ljava/lang/Throwable;" } : Jvm.MethodName)) ∈ lw_all := lw_g (lw_at lw_m2 58 rfl) rfl
theorem q600 : (Jvm.Cond.instantiable "java/lang/IllegalArgumentException" (6 : Nat)) ∈ lw_all := lw_g (lw_at lw_m3 44 rfl) rfl
theorem q601 : (Jvm.Cond.castable "java/lang/IllegalArgumentException" "java/lang/IllegalArgumentException") ∈ lw_tbl := lw_at lw_m3 45 rfl
theorem q602 : (Jvm.Cond.selects "java/lang/IllegalArgumentException" ({ cls := "java/lang/Throwable", name := "fillInStackTrace", desc := "(I)Ljava/lang/Throwable;" } : Jvm.MethodName) ({ cls := "java/lang/Throwable", name := "fillInStackTrace", desc := "(I)Ljava/lang/Throwable;" } : Jvm.MethodName)) ∈ lw_all := lw_g (lw_at lw_m3 46 rfl) rfl
theorem q603 : (Jvm.Cond.lays "java/lang/IllegalArgumentException" "java/lang/Throwable" "cause" "Ljava/lang/Throwable;") ∈ lw_all := lw_g (lw_at lw_m3 47 rfl) rfl
theorem q604 : (Jvm.Cond.lays "java/lang/IllegalArgumentException" "java/lang/Throwable" "stackTrace" "[Ljava/lang/StackTraceElement;") ∈ lw_all := lw_g (lw_at lw_m3 48 rfl) rfl
theorem q605 : (Jvm.Cond.lays "java/lang/IllegalArgumentException" "java/lang/Throwable" "suppressedExceptions" "Ljava/util/List;") ∈ lw_all := lw_g (lw_at lw_m3 49 rfl) rfl
theorem q606 : (Jvm.Cond.lays "java/lang/IllegalArgumentException" "java/lang/Throwable" "detailMessage" "Ljava/lang/String;") ∈ lw_all := lw_g (lw_at lw_m3 50 rfl) rfl
theorem q607 : (Jvm.Cond.lays "java/lang/IllegalArgumentException" "java/lang/Throwable" "backtrace" "Ljava/lang/Object;") ∈ lw_all := lw_g (lw_at lw_m3 51 rfl) rfl
theorem q615 : (Jvm.Cond.instanceMethod ({ cls := "java/lang/IllegalArgumentException", name := "<init>", desc := "(Ljava/lang/String;)V" } : Jvm.MethodName)) ∈ lw_all := lw_g (lw_at lw_m3 59 rfl) rfl
theorem q616 : (Jvm.Cond.code ({ cls := "java/lang/IllegalArgumentException", name := "<init>", desc := "(Ljava/lang/String;)V" } : Jvm.MethodName) prog_34_method_2_code (2 : Nat) (Option.none : Option Jvm.ClassFile.FieldType)) ∈ lw_all := lw_g (lw_at lw_m3 60 rfl) rfl
theorem q617 : (Jvm.Cond.methodLink "java/lang/IllegalArgumentException" (7 : Nat) ({ cls := "java/lang/RuntimeException", name := "<init>", desc := "(Ljava/lang/String;)V" } : Jvm.MethodName)) ∈ lw_all := lw_g (lw_at lw_m3 61 rfl) rfl
theorem q635 : (Jvm.Cond.lays "java/lang/IllegalArgumentException" "java/lang/Throwable" "depth" "I") ∈ lw_all := lw_g (lw_at lw_m3 79 rfl) rfl
theorem q638 : (Jvm.Cond.superclass "java/lang/IllegalArgumentException" "java/lang/RuntimeException") ∈ lw_all := lw_g (lw_at lw_m3 82 rfl) rfl
theorem q756 : (Jvm.Cond.selects "java/lang/IllegalArgumentException" ({ cls := "java/lang/Object", name := "getClass", desc := "()Ljava/lang/Class;" } : Jvm.MethodName) ({ cls := "java/lang/Object", name := "getClass", desc := "()Ljava/lang/Class;" } : Jvm.MethodName)) ∈ lw_all := lw_g (lw_at lw_m3 200 rfl) rfl
theorem q1288 : (Jvm.Cond.selects "java/lang/IllegalArgumentException" ({ cls := "java/lang/Object", name := "hashCode", desc := "()I" } : Jvm.MethodName) ({ cls := "java/lang/Object", name := "hashCode", desc := "()I" } : Jvm.MethodName)) ∈ lw_all := lw_g (lw_at lw_m6 12 rfl) rfl
theorem q1389 : (Jvm.Cond.selects "java/lang/IllegalArgumentException" ({ cls := "java/lang/Object", name := "equals", desc := "(Ljava/lang/Object;)Z" } : Jvm.MethodName) ({ cls := "java/lang/Object", name := "equals", desc := "(Ljava/lang/Object;)Z" } : Jvm.MethodName)) ∈ lw_all := lw_g (lw_at lw_m6 113 rfl) rfl
theorem q2969 : (Jvm.Cond.instanceMethod ({ cls := "java/lang/IllegalArgumentException", name := "<init>", desc := "()V" } : Jvm.MethodName)) ∈ lw_all := lw_g (lw_at lw_m13 13 rfl) rfl
theorem q2970 : (Jvm.Cond.code ({ cls := "java/lang/IllegalArgumentException", name := "<init>", desc := "()V" } : Jvm.MethodName) prog_34_method_1_code (1 : Nat) (Option.none : Option Jvm.ClassFile.FieldType)) ∈ lw_all := lw_g (lw_at lw_m13 14 rfl) rfl
theorem q2971 : (Jvm.Cond.methodLink "java/lang/IllegalArgumentException" (1 : Nat) ({ cls := "java/lang/RuntimeException", name := "<init>", desc := "()V" } : Jvm.MethodName)) ∈ lw_all := lw_g (lw_at lw_m13 15 rfl) rfl
theorem q3696 : (Jvm.Cond.castable "java/lang/IllegalArgumentException" "java/lang/Object") ∈ lw_tbl := lw_at lw_m16 20 rfl
theorem in_J27 : ∀ w ∈ wsJ270, w ∈ lw_all := lw_in wsJ270 [603, 604, 605, 606, 607, 635] (by decide +kernel) (by decide +kernel)
/-! java/util/TreeMap$Values -/
def RJ28 : String := "java/util/TreeMap$Values"
def TJ28 : u_T := fun k => match k with
  | _ => ("java/util/TreeMap$Values", "this$0", "Ljava/util/TreeMap;", true)
def tyJ28 : Nat → FieldType := fun k => match k with
  | _ => .object "java/util/TreeMap"
abbrev wsJ280 : List Cond := u_ws RJ28 TJ28 1
theorem nmJ28 : ∀ a, a < 1 → ∀ b, b < 1 → a ≠ b → (TJ28 a).2.1 ≠ (TJ28 b).2.1 := by decide +kernel
theorem tyJ28_ok : ∀ k, k < 1 → parseFieldDescriptor (TJ28 k).2.2.1 = some (tyJ28 k) := by decide +kernel
abbrev cJ28_iterator : ByteArray := prog_96_method_2_code
def yJ28_iterator : MethodName := ⟨RJ28, "iterator", "()Ljava/util/Iterator;"⟩
def dkwJ28_iterator_0 : List UInt8 := [187, 0, 13, 89, 42, 180, 0, 1, 42, 180, 0, 1, 182, 0, 15, 183, 0, 21, 176]
abbrev dktJ28_iterator_0 : List UInt8 := dkwJ28_iterator_0 ++ []
theorem dksJ28_iterator_0 : cJ28_iterator.data.toList.drop 0 = dktJ28_iterator_0 := by decide +kernel
theorem dJ28_iterator_0 : decode cJ28_iterator 0 = .ok (.new 13, 3) := dk_187 0 13 (dk_at dksJ28_iterator_0 0 rfl rfl)
theorem dJ28_iterator_3 : decode cJ28_iterator 3 = .ok (.dup, 1) := dk_89 (dk_at dksJ28_iterator_0 3 rfl rfl)
theorem dJ28_iterator_4 : decode cJ28_iterator 4 = .ok (.aload_n 0, 1) := dk_42 (dk_at dksJ28_iterator_0 4 rfl rfl)
theorem dJ28_iterator_5 : decode cJ28_iterator 5 = .ok (.getfield 1, 3) := dk_180 0 1 (dk_at dksJ28_iterator_0 5 rfl rfl)
theorem dJ28_iterator_8 : decode cJ28_iterator 8 = .ok (.aload_n 0, 1) := dk_42 (dk_at dksJ28_iterator_0 8 rfl rfl)
theorem dJ28_iterator_9 : decode cJ28_iterator 9 = .ok (.getfield 1, 3) := dk_180 0 1 (dk_at dksJ28_iterator_0 9 rfl rfl)
theorem dJ28_iterator_12 : decode cJ28_iterator 12 = .ok (.invokevirtual 15, 3) := dk_182 0 15 (dk_at dksJ28_iterator_0 12 rfl rfl)
theorem dJ28_iterator_15 : decode cJ28_iterator 15 = .ok (.invokespecial 21, 3) := dk_183 0 21 (dk_at dksJ28_iterator_0 15 rfl rfl)
theorem dJ28_iterator_18 : decode cJ28_iterator 18 = .ok (.areturn, 1) := dk_176 (dk_at dksJ28_iterator_0 18 rfl rfl)
abbrev cJ28_init : ByteArray := prog_96_method_1_code
def yJ28_init : MethodName := ⟨RJ28, "<init>", "(Ljava/util/TreeMap;)V"⟩
def dkwJ28_init_0 : List UInt8 := [42, 43, 181, 0, 1, 42, 183, 0, 7, 177]
abbrev dktJ28_init_0 : List UInt8 := dkwJ28_init_0 ++ []
theorem dksJ28_init_0 : cJ28_init.data.toList.drop 0 = dktJ28_init_0 := by decide +kernel
theorem dJ28_init_0 : decode cJ28_init 0 = .ok (.aload_n 0, 1) := dk_42 (dk_at dksJ28_init_0 0 rfl rfl)
theorem dJ28_init_1 : decode cJ28_init 1 = .ok (.aload_n 1, 1) := dk_43 (dk_at dksJ28_init_0 1 rfl rfl)
theorem dJ28_init_2 : decode cJ28_init 2 = .ok (.putfield 1, 3) := dk_181 0 1 (dk_at dksJ28_init_0 2 rfl rfl)
theorem dJ28_init_5 : decode cJ28_init 5 = .ok (.aload_n 0, 1) := dk_42 (dk_at dksJ28_init_0 5 rfl rfl)
theorem dJ28_init_6 : decode cJ28_init 6 = .ok (.invokespecial 7, 3) := dk_183 0 7 (dk_at dksJ28_init_0 6 rfl rfl)
theorem dJ28_init_9 : decode cJ28_init 9 = .ok (.return_, 1) := dk_177 (dk_at dksJ28_init_0 9 rfl rfl)
theorem q113 : (Jvm.Cond.initialized "java/util/TreeMap$Values") ∈ lw_all := lw_g (lw_at lw_m1 37 rfl) rfl
theorem q781 : (Jvm.Cond.selects "java/util/TreeMap$Values" ({ cls := "java/lang/Object", name := "getClass", desc := "()Ljava/lang/Class;" } : Jvm.MethodName) ({ cls := "java/lang/Object", name := "getClass", desc := "()Ljava/lang/Class;" } : Jvm.MethodName)) ∈ lw_all := lw_g (lw_at lw_m3 225 rfl) rfl
theorem q917 : (Jvm.Cond.castable "java/util/TreeMap$Values" "java/lang/Iterable") ∈ lw_tbl := lw_at lw_m4 121 rfl
theorem q918 : (Jvm.Cond.selects "java/util/TreeMap$Values" ({ cls := "java/lang/Iterable", name := "iterator", desc := "()Ljava/util/Iterator;" } : Jvm.MethodName) ({ cls := "java/util/TreeMap$Values", name := "iterator", desc := "()Ljava/util/Iterator;" } : Jvm.MethodName)) ∈ lw_all := lw_g (lw_at lw_m4 122 rfl) rfl
theorem q919 : (Jvm.Cond.unhidden "java/util/TreeMap$Values" "iterator" "()Ljava/util/Iterator;") ∈ lw_tbl := lw_at lw_m4 123 rfl
theorem q920 : (Jvm.Cond.instanceMethod ({ cls := "java/util/TreeMap$Values", name := "iterator", desc := "()Ljava/util/Iterator;" } : Jvm.MethodName)) ∈ lw_all := lw_g (lw_at lw_m4 124 rfl) rfl
theorem q921 : (Jvm.Cond.publicMethod ({ cls := "java/util/TreeMap$Values", name := "iterator", desc := "()Ljava/util/Iterator;" } : Jvm.MethodName)) ∈ lw_tbl := lw_at lw_m4 125 rfl
theorem q922 : (Jvm.Cond.code ({ cls := "java/util/TreeMap$Values", name := "iterator", desc := "()Ljava/util/Iterator;" } : Jvm.MethodName) prog_96_method_2_code (1 : Nat) (Option.some (Jvm.ClassFile.FieldType.object "java/util/Iterator"))) ∈ lw_all := lw_g (lw_at lw_m4 126 rfl) rfl
theorem q923 : (Jvm.Cond.classLink "java/util/TreeMap$Values" (13 : Nat) "java/util/TreeMap$ValueIterator") ∈ lw_all := lw_g (lw_at lw_m4 127 rfl) rfl
theorem q925 : (Jvm.Cond.methodLink "java/util/TreeMap$Values" (15 : Nat) ({ cls := "java/util/TreeMap", name := "getFirstEntry", desc := "()Ljava/util/TreeMap$Entry;" } : Jvm.MethodName)) ∈ lw_all := lw_g (lw_at lw_m4 129 rfl) rfl
theorem q926 : (Jvm.Cond.methodLink "java/util/TreeMap$Values" (21 : Nat) ({ cls := "java/util/TreeMap$ValueIterator", name := "<init>", desc := "(Ljava/util/TreeMap;Ljava/util/TreeMap$Entry;)V" } : Jvm.MethodName)) ∈ lw_all := lw_g (lw_at lw_m4 130 rfl) rfl
theorem q1181 : (Jvm.Cond.instantiable "java/util/TreeMap$Values" (1 : Nat)) ∈ lw_all := lw_g (lw_at lw_m5 145 rfl) rfl
theorem q1183 : (Jvm.Cond.instanceMethod ({ cls := "java/util/TreeMap$Values", name := "<init>", desc := "(Ljava/util/TreeMap;)V" } : Jvm.MethodName)) ∈ lw_all := lw_g (lw_at lw_m5 147 rfl) rfl
theorem q1184 : (Jvm.Cond.code ({ cls := "java/util/TreeMap$Values", name := "<init>", desc := "(Ljava/util/TreeMap;)V" } : Jvm.MethodName) prog_96_method_1_code (2 : Nat) (Option.none : Option Jvm.ClassFile.FieldType)) ∈ lw_all := lw_g (lw_at lw_m5 148 rfl) rfl
theorem q1185 : (Jvm.Cond.methodLink "java/util/TreeMap$Values" (7 : Nat) ({ cls := "java/util/AbstractCollection", name := "<init>", desc := "()V" } : Jvm.MethodName)) ∈ lw_all := lw_g (lw_at lw_m5 149 rfl) rfl
theorem q1186 : (Jvm.Cond.fieldLink "java/util/TreeMap$Values" (1 : Nat) "java/util/TreeMap$Values" "this$0" "Ljava/util/TreeMap;") ∈ lw_all := lw_g (lw_at lw_m5 150 rfl) rfl
theorem q1187 : (Jvm.Cond.laysFinal "java/util/TreeMap$Values" "java/util/TreeMap$Values" "this$0" "Ljava/util/TreeMap;") ∈ lw_all := lw_g (lw_at lw_m5 151 rfl) rfl
theorem q1188 : (Jvm.Cond.soleField "java/util/TreeMap$Values" "this$0") ∈ lw_all := lw_g (lw_at lw_m5 152 rfl) rfl
theorem q1189 : (Jvm.Cond.superclass "java/util/TreeMap$Values" "java/util/AbstractCollection") ∈ lw_all := lw_g (lw_at lw_m5 153 rfl) rfl
theorem q1202 : (Jvm.Cond.castable "java/util/TreeMap$Values" "java/util/Collection") ∈ lw_tbl := lw_at lw_m5 166 rfl
theorem q1203 : (Jvm.Cond.selects "java/util/TreeMap$Values" ({ cls := "java/util/Collection", name := "iterator", desc := "()Ljava/util/Iterator;" } : Jvm.MethodName) ({ cls := "java/util/TreeMap$Values", name := "iterator", desc := "()Ljava/util/Iterator;" } : Jvm.MethodName)) ∈ lw_all := lw_g (lw_at lw_m5 167 rfl) rfl
theorem q3697 : (Jvm.Cond.castable "java/util/TreeMap$Values" "java/lang/Object") ∈ lw_tbl := lw_at lw_m16 21 rfl
theorem in_J28 : ∀ w ∈ wsJ280, w ∈ lw_all := lw_in wsJ280 [1187] (by decide +kernel) (by decide +kernel)
/-! java/util/HashMap$HashIterator -/
def RJ29 : String := "java/util/HashMap$HashIterator"
abbrev cJ29_init : ByteArray := prog_68_method_1_code
def yJ29_init : MethodName := ⟨RJ29, "<init>", "(Ljava/util/HashMap;)V"⟩
abbrev cJ29_hasNext : ByteArray := prog_68_method_2_code
def yJ29_hasNext : MethodName := ⟨RJ29, "hasNext", "()Z"⟩
abbrev cJ29_nextNode : ByteArray := prog_68_method_3_code
def yJ29_nextNode : MethodName := ⟨RJ29, "nextNode", "()Ljava/util/HashMap$Node;"⟩
abbrev cJ29_remove : ByteArray := prog_68_method_4_code
def yJ29_remove : MethodName := ⟨RJ29, "remove", "()V"⟩
theorem q114 : (Jvm.Cond.initialized "java/util/HashMap$HashIterator") ∈ lw_all := lw_g (lw_at lw_m1 38 rfl) rfl
theorem q204 : (Jvm.Cond.fieldLink "java/util/HashMap$HashIterator" (22 : Nat) "java/util/HashMap" "table" "[Ljava/util/HashMap$Node;") ∈ lw_all := lw_g (lw_at lw_m1 128 rfl) rfl
theorem q207 : (Jvm.Cond.fieldLink "java/util/HashMap$HashIterator" (36 : Nat) "java/util/HashMap" "size" "I") ∈ lw_all := lw_g (lw_at lw_m1 131 rfl) rfl
theorem q209 : (Jvm.Cond.fieldLink "java/util/HashMap$HashIterator" (13 : Nat) "java/util/HashMap" "modCount" "I") ∈ lw_all := lw_g (lw_at lw_m1 133 rfl) rfl
theorem q839 : (Jvm.Cond.instanceMethod ({ cls := "java/util/HashMap$HashIterator", name := "<init>", desc := "(Ljava/util/HashMap;)V" } : Jvm.MethodName)) ∈ lw_all := lw_g (lw_at lw_m4 43 rfl) rfl
theorem q840 : (Jvm.Cond.code ({ cls := "java/util/HashMap$HashIterator", name := "<init>", desc := "(Ljava/util/HashMap;)V" } : Jvm.MethodName) prog_68_method_1_code (3 : Nat) (Option.none : Option Jvm.ClassFile.FieldType)) ∈ lw_all := lw_g (lw_at lw_m4 44 rfl) rfl
theorem q841 : (Jvm.Cond.methodLink "java/util/HashMap$HashIterator" (7 : Nat) ({ cls := "java/lang/Object", name := "<init>", desc := "()V" } : Jvm.MethodName)) ∈ lw_all := lw_g (lw_at lw_m4 45 rfl) rfl
theorem q842 : (Jvm.Cond.fieldLink "java/util/HashMap$HashIterator" (26 : Nat) "java/util/HashMap$HashIterator" "next" "Ljava/util/HashMap$Node;") ∈ lw_all := lw_g (lw_at lw_m4 46 rfl) rfl
theorem q843 : (Jvm.Cond.fieldLink "java/util/HashMap$HashIterator" (30 : Nat) "java/util/HashMap$HashIterator" "current" "Ljava/util/HashMap$Node;") ∈ lw_all := lw_g (lw_at lw_m4 47 rfl) rfl
theorem q844 : (Jvm.Cond.fieldLink "java/util/HashMap$HashIterator" (19 : Nat) "java/util/HashMap$HashIterator" "expectedModCount" "I") ∈ lw_all := lw_g (lw_at lw_m4 48 rfl) rfl
theorem q845 : (Jvm.Cond.fieldLink "java/util/HashMap$HashIterator" (33 : Nat) "java/util/HashMap$HashIterator" "index" "I") ∈ lw_all := lw_g (lw_at lw_m4 49 rfl) rfl
theorem q846 : (Jvm.Cond.fieldLink "java/util/HashMap$HashIterator" (1 : Nat) "java/util/HashMap$HashIterator" "this$0" "Ljava/util/HashMap;") ∈ lw_all := lw_g (lw_at lw_m4 50 rfl) rfl
theorem q848 : (Jvm.Cond.soleField "java/util/HashMap$HashIterator" "next") ∈ lw_all := lw_g (lw_at lw_m4 52 rfl) rfl
theorem q850 : (Jvm.Cond.soleField "java/util/HashMap$HashIterator" "current") ∈ lw_all := lw_g (lw_at lw_m4 54 rfl) rfl
theorem q852 : (Jvm.Cond.soleField "java/util/HashMap$HashIterator" "expectedModCount") ∈ lw_all := lw_g (lw_at lw_m4 56 rfl) rfl
theorem q854 : (Jvm.Cond.soleField "java/util/HashMap$HashIterator" "index") ∈ lw_all := lw_g (lw_at lw_m4 58 rfl) rfl
theorem q856 : (Jvm.Cond.soleField "java/util/HashMap$HashIterator" "this$0") ∈ lw_all := lw_g (lw_at lw_m4 60 rfl) rfl
theorem q948 : (Jvm.Cond.instanceMethod ({ cls := "java/util/HashMap$HashIterator", name := "hasNext", desc := "()Z" } : Jvm.MethodName)) ∈ lw_all := lw_g (lw_at lw_m4 152 rfl) rfl
theorem q949 : (Jvm.Cond.publicMethod ({ cls := "java/util/HashMap$HashIterator", name := "hasNext", desc := "()Z" } : Jvm.MethodName)) ∈ lw_tbl := lw_at lw_m4 153 rfl
theorem q950 : (Jvm.Cond.code ({ cls := "java/util/HashMap$HashIterator", name := "hasNext", desc := "()Z" } : Jvm.MethodName) prog_68_method_2_code (1 : Nat) (Option.some Jvm.ClassFile.FieldType.boolean)) ∈ lw_all := lw_g (lw_at lw_m4 154 rfl) rfl
theorem q1008 : (Jvm.Cond.declares ({ cls := "java/util/HashMap$HashIterator", name := "nextNode", desc := "()Ljava/util/HashMap$Node;" } : Jvm.MethodName)) ∈ lw_tbl := lw_at lw_m4 212 rfl
theorem q1010 : (Jvm.Cond.instanceMethod ({ cls := "java/util/HashMap$HashIterator", name := "nextNode", desc := "()Ljava/util/HashMap$Node;" } : Jvm.MethodName)) ∈ lw_all := lw_g (lw_at lw_m4 214 rfl) rfl
theorem q1011 : (Jvm.Cond.code ({ cls := "java/util/HashMap$HashIterator", name := "nextNode", desc := "()Ljava/util/HashMap$Node;" } : Jvm.MethodName) prog_68_method_3_code (3 : Nat) (Option.some (Jvm.ClassFile.FieldType.object "java/util/HashMap$Node"))) ∈ lw_all := lw_g (lw_at lw_m4 215 rfl) rfl
theorem q1012 : (Jvm.Cond.classLink "java/util/HashMap$HashIterator" (42 : Nat) "java/util/NoSuchElementException") ∈ lw_all := lw_g (lw_at lw_m4 216 rfl) rfl
theorem q1013 : (Jvm.Cond.methodLink "java/util/HashMap$HashIterator" (44 : Nat) ({ cls := "java/util/NoSuchElementException", name := "<init>", desc := "()V" } : Jvm.MethodName)) ∈ lw_all := lw_g (lw_at lw_m4 217 rfl) rfl
theorem q1679 : (Jvm.Cond.fieldLink "java/util/HashMap$HashIterator" (51 : Nat) "java/util/HashMap$Node" "hash" "I") ∈ lw_all := lw_g (lw_at lw_m7 163 rfl) rfl
theorem q1684 : (Jvm.Cond.fieldLink "java/util/HashMap$HashIterator" (54 : Nat) "java/util/HashMap$Node" "key" "Ljava/lang/Object;") ∈ lw_all := lw_g (lw_at lw_m7 168 rfl) rfl
theorem q1689 : (Jvm.Cond.fieldLink "java/util/HashMap$HashIterator" (45 : Nat) "java/util/HashMap$Node" "next" "Ljava/util/HashMap$Node;") ∈ lw_all := lw_g (lw_at lw_m7 173 rfl) rfl
theorem q2278 : (Jvm.Cond.instanceMethod ({ cls := "java/util/HashMap$HashIterator", name := "remove", desc := "()V" } : Jvm.MethodName)) ∈ lw_all := lw_g (lw_at lw_m10 42 rfl) rfl
theorem q2279 : (Jvm.Cond.publicMethod ({ cls := "java/util/HashMap$HashIterator", name := "remove", desc := "()V" } : Jvm.MethodName)) ∈ lw_tbl := lw_at lw_m10 43 rfl
theorem q2280 : (Jvm.Cond.code ({ cls := "java/util/HashMap$HashIterator", name := "remove", desc := "()V" } : Jvm.MethodName) prog_68_method_4_code (2 : Nat) (Option.none : Option Jvm.ClassFile.FieldType)) ∈ lw_all := lw_g (lw_at lw_m10 44 rfl) rfl
theorem q2281 : (Jvm.Cond.classLink "java/util/HashMap$HashIterator" (48 : Nat) "java/lang/IllegalStateException") ∈ lw_all := lw_g (lw_at lw_m10 45 rfl) rfl
theorem q2282 : (Jvm.Cond.methodLink "java/util/HashMap$HashIterator" (50 : Nat) ({ cls := "java/lang/IllegalStateException", name := "<init>", desc := "()V" } : Jvm.MethodName)) ∈ lw_all := lw_g (lw_at lw_m10 46 rfl) rfl
theorem q2283 : (Jvm.Cond.methodLink "java/util/HashMap$HashIterator" (58 : Nat) ({ cls := "java/util/HashMap", name := "removeNode", desc := "(ILjava/lang/Object;Ljava/lang/Object;ZZ)Ljava/util/HashMap$Node;" } : Jvm.MethodName)) ∈ lw_all := lw_g (lw_at lw_m10 47 rfl) rfl
/-! java/util/HashMap$EntryIterator -/
def RJ30 : String := "java/util/HashMap$EntryIterator"
def TJ30 : u_T := fun k => match k with
  | 0 => ("java/util/HashMap$HashIterator", "next", "Ljava/util/HashMap$Node;", false)
  | 1 => ("java/util/HashMap$HashIterator", "current", "Ljava/util/HashMap$Node;", false)
  | 2 => ("java/util/HashMap$HashIterator", "expectedModCount", "I", false)
  | 3 => ("java/util/HashMap$HashIterator", "index", "I", false)
  | _ => ("java/util/HashMap$HashIterator", "this$0", "Ljava/util/HashMap;", true)
def tyJ30 : Nat → FieldType := fun k => match k with
  | 0 => .object "java/util/HashMap$Node"
  | 1 => .object "java/util/HashMap$Node"
  | 2 => .int
  | 3 => .int
  | _ => .object "java/util/HashMap"
abbrev wsJ300 : List Cond := u_ws RJ30 TJ30 5
theorem nmJ30 : ∀ a, a < 5 → ∀ b, b < 5 → a ≠ b → (TJ30 a).2.1 ≠ (TJ30 b).2.1 := by decide +kernel
theorem tyJ30_ok : ∀ k, k < 5 → parseFieldDescriptor (TJ30 k).2.2.1 = some (tyJ30 k) := by decide +kernel
abbrev cJ30_init : ByteArray := prog_66_method_1_code
def yJ30_init : MethodName := ⟨RJ30, "<init>", "(Ljava/util/HashMap;)V"⟩
abbrev cJ30_next : ByteArray := prog_66_method_3_code
def yJ30_next : MethodName := ⟨RJ30, "next", "()Ljava/lang/Object;"⟩
abbrev cJ30_next_2 : ByteArray := prog_66_method_2_code
def yJ30_next_2 : MethodName := ⟨RJ30, "next", "()Ljava/util/Map$Entry;"⟩
theorem q115 : (Jvm.Cond.initialized "java/util/HashMap$EntryIterator") ∈ lw_all := lw_g (lw_at lw_m1 39 rfl) rfl
theorem q769 : (Jvm.Cond.selects "java/util/HashMap$EntryIterator" ({ cls := "java/lang/Object", name := "getClass", desc := "()Ljava/lang/Class;" } : Jvm.MethodName) ({ cls := "java/lang/Object", name := "getClass", desc := "()Ljava/lang/Class;" } : Jvm.MethodName)) ∈ lw_all := lw_g (lw_at lw_m3 213 rfl) rfl
theorem q834 : (Jvm.Cond.instantiable "java/util/HashMap$EntryIterator" (5 : Nat)) ∈ lw_all := lw_g (lw_at lw_m4 38 rfl) rfl
theorem q836 : (Jvm.Cond.instanceMethod ({ cls := "java/util/HashMap$EntryIterator", name := "<init>", desc := "(Ljava/util/HashMap;)V" } : Jvm.MethodName)) ∈ lw_all := lw_g (lw_at lw_m4 40 rfl) rfl
theorem q837 : (Jvm.Cond.code ({ cls := "java/util/HashMap$EntryIterator", name := "<init>", desc := "(Ljava/util/HashMap;)V" } : Jvm.MethodName) prog_66_method_1_code (2 : Nat) (Option.none : Option Jvm.ClassFile.FieldType)) ∈ lw_all := lw_g (lw_at lw_m4 41 rfl) rfl
theorem q838 : (Jvm.Cond.methodLink "java/util/HashMap$EntryIterator" (1 : Nat) ({ cls := "java/util/HashMap$HashIterator", name := "<init>", desc := "(Ljava/util/HashMap;)V" } : Jvm.MethodName)) ∈ lw_all := lw_g (lw_at lw_m4 42 rfl) rfl
theorem q847 : (Jvm.Cond.lays "java/util/HashMap$EntryIterator" "java/util/HashMap$HashIterator" "next" "Ljava/util/HashMap$Node;") ∈ lw_all := lw_g (lw_at lw_m4 51 rfl) rfl
theorem q849 : (Jvm.Cond.lays "java/util/HashMap$EntryIterator" "java/util/HashMap$HashIterator" "current" "Ljava/util/HashMap$Node;") ∈ lw_all := lw_g (lw_at lw_m4 53 rfl) rfl
theorem q851 : (Jvm.Cond.lays "java/util/HashMap$EntryIterator" "java/util/HashMap$HashIterator" "expectedModCount" "I") ∈ lw_all := lw_g (lw_at lw_m4 55 rfl) rfl
theorem q853 : (Jvm.Cond.lays "java/util/HashMap$EntryIterator" "java/util/HashMap$HashIterator" "index" "I") ∈ lw_all := lw_g (lw_at lw_m4 57 rfl) rfl
theorem q855 : (Jvm.Cond.laysFinal "java/util/HashMap$EntryIterator" "java/util/HashMap$HashIterator" "this$0" "Ljava/util/HashMap;") ∈ lw_all := lw_g (lw_at lw_m4 59 rfl) rfl
theorem q857 : (Jvm.Cond.superclass "java/util/HashMap$EntryIterator" "java/util/HashMap$HashIterator") ∈ lw_all := lw_g (lw_at lw_m4 61 rfl) rfl
theorem q945 : (Jvm.Cond.castable "java/util/HashMap$EntryIterator" "java/util/Iterator") ∈ lw_tbl := lw_at lw_m4 149 rfl
theorem q946 : (Jvm.Cond.selects "java/util/HashMap$EntryIterator" ({ cls := "java/util/Iterator", name := "hasNext", desc := "()Z" } : Jvm.MethodName) ({ cls := "java/util/HashMap$HashIterator", name := "hasNext", desc := "()Z" } : Jvm.MethodName)) ∈ lw_all := lw_g (lw_at lw_m4 150 rfl) rfl
theorem q947 : (Jvm.Cond.unhidden "java/util/HashMap$EntryIterator" "hasNext" "()Z") ∈ lw_tbl := lw_at lw_m4 151 rfl
theorem q997 : (Jvm.Cond.selects "java/util/HashMap$EntryIterator" ({ cls := "java/util/Iterator", name := "next", desc := "()Ljava/lang/Object;" } : Jvm.MethodName) ({ cls := "java/util/HashMap$EntryIterator", name := "next", desc := "()Ljava/lang/Object;" } : Jvm.MethodName)) ∈ lw_all := lw_g (lw_at lw_m4 201 rfl) rfl
theorem q998 : (Jvm.Cond.unhidden "java/util/HashMap$EntryIterator" "next" "()Ljava/lang/Object;") ∈ lw_tbl := lw_at lw_m4 202 rfl
theorem q999 : (Jvm.Cond.instanceMethod ({ cls := "java/util/HashMap$EntryIterator", name := "next", desc := "()Ljava/lang/Object;" } : Jvm.MethodName)) ∈ lw_all := lw_g (lw_at lw_m4 203 rfl) rfl
theorem q1000 : (Jvm.Cond.publicMethod ({ cls := "java/util/HashMap$EntryIterator", name := "next", desc := "()Ljava/lang/Object;" } : Jvm.MethodName)) ∈ lw_tbl := lw_at lw_m4 204 rfl
theorem q1001 : (Jvm.Cond.code ({ cls := "java/util/HashMap$EntryIterator", name := "next", desc := "()Ljava/lang/Object;" } : Jvm.MethodName) prog_66_method_3_code (1 : Nat) (Option.some (Jvm.ClassFile.FieldType.object "java/lang/Object"))) ∈ lw_all := lw_g (lw_at lw_m4 205 rfl) rfl
theorem q1002 : (Jvm.Cond.methodLink "java/util/HashMap$EntryIterator" (13 : Nat) ({ cls := "java/util/HashMap$EntryIterator", name := "next", desc := "()Ljava/util/Map$Entry;" } : Jvm.MethodName)) ∈ lw_all := lw_g (lw_at lw_m4 206 rfl) rfl
theorem q1003 : (Jvm.Cond.instanceMethod ({ cls := "java/util/HashMap$EntryIterator", name := "next", desc := "()Ljava/util/Map$Entry;" } : Jvm.MethodName)) ∈ lw_all := lw_g (lw_at lw_m4 207 rfl) rfl
theorem q1004 : (Jvm.Cond.selects "java/util/HashMap$EntryIterator" ({ cls := "java/util/HashMap$EntryIterator", name := "next", desc := "()Ljava/util/Map$Entry;" } : Jvm.MethodName) ({ cls := "java/util/HashMap$EntryIterator", name := "next", desc := "()Ljava/util/Map$Entry;" } : Jvm.MethodName)) ∈ lw_all := lw_g (lw_at lw_m4 208 rfl) rfl
theorem q1005 : (Jvm.Cond.code ({ cls := "java/util/HashMap$EntryIterator", name := "next", desc := "()Ljava/util/Map$Entry;" } : Jvm.MethodName) prog_66_method_2_code (1 : Nat) (Option.some (Jvm.ClassFile.FieldType.object "java/util/Map$Entry"))) ∈ lw_all := lw_g (lw_at lw_m4 209 rfl) rfl
theorem q1006 : (Jvm.Cond.methodLink "java/util/HashMap$EntryIterator" (7 : Nat) ({ cls := "java/util/HashMap$EntryIterator", name := "nextNode", desc := "()Ljava/util/HashMap$Node;" } : Jvm.MethodName)) ∈ lw_all := lw_g (lw_at lw_m4 210 rfl) rfl
theorem q1007 : (Jvm.Cond.sameMethod "java/util/HashMap$EntryIterator" "java/util/HashMap$HashIterator" "nextNode" "()Ljava/util/HashMap$Node;") ∈ lw_all := lw_g (lw_at lw_m4 211 rfl) rfl
theorem q1009 : (Jvm.Cond.selects "java/util/HashMap$EntryIterator" ({ cls := "java/util/HashMap$EntryIterator", name := "nextNode", desc := "()Ljava/util/HashMap$Node;" } : Jvm.MethodName) ({ cls := "java/util/HashMap$HashIterator", name := "nextNode", desc := "()Ljava/util/HashMap$Node;" } : Jvm.MethodName)) ∈ lw_all := lw_g (lw_at lw_m4 213 rfl) rfl
theorem q2276 : (Jvm.Cond.selects "java/util/HashMap$EntryIterator" ({ cls := "java/util/Iterator", name := "remove", desc := "()V" } : Jvm.MethodName) ({ cls := "java/util/HashMap$HashIterator", name := "remove", desc := "()V" } : Jvm.MethodName)) ∈ lw_all := lw_g (lw_at lw_m10 40 rfl) rfl
theorem q2277 : (Jvm.Cond.unhidden "java/util/HashMap$EntryIterator" "remove" "()V") ∈ lw_tbl := lw_at lw_m10 41 rfl
theorem q3720 : (Jvm.Cond.castable "java/util/HashMap$EntryIterator" "java/lang/Object") ∈ lw_tbl := lw_at lw_m16 44 rfl
theorem in_J30 : ∀ w ∈ wsJ300, w ∈ lw_all := lw_in wsJ300 [847, 849, 851, 853, 855] (by decide +kernel) (by decide +kernel)
/-! java/util/TreeMap$PrivateEntryIterator -/
def RJ31 : String := "java/util/TreeMap$PrivateEntryIterator"
abbrev cJ31_init : ByteArray := prog_94_method_1_code
def yJ31_init : MethodName := ⟨RJ31, "<init>", "(Ljava/util/TreeMap;Ljava/util/TreeMap$Entry;)V"⟩
def dkwJ31_init_1 : List UInt8 := [181, 0, 26, 177]
abbrev dktJ31_init_1 : List UInt8 := dkwJ31_init_1 ++ []
def dkwJ31_init_0 : List UInt8 := [42, 43, 181, 0, 1, 42, 183, 0, 7, 42, 43, 180, 0, 13, 181, 0, 19, 42, 1, 181, 0, 22, 42, 44]
abbrev dktJ31_init_0 : List UInt8 := dkwJ31_init_0 ++ dktJ31_init_1
theorem dksJ31_init_0 : cJ31_init.data.toList.drop 0 = dktJ31_init_0 := by decide +kernel
theorem dksJ31_init_1 : cJ31_init.data.toList.drop 24 = dktJ31_init_1 := dk_seg dksJ31_init_0 24 rfl rfl
theorem dJ31_init_0 : decode cJ31_init 0 = .ok (.aload_n 0, 1) := dk_42 (dk_at dksJ31_init_0 0 rfl rfl)
theorem dJ31_init_1 : decode cJ31_init 1 = .ok (.aload_n 1, 1) := dk_43 (dk_at dksJ31_init_0 1 rfl rfl)
theorem dJ31_init_2 : decode cJ31_init 2 = .ok (.putfield 1, 3) := dk_181 0 1 (dk_at dksJ31_init_0 2 rfl rfl)
theorem dJ31_init_5 : decode cJ31_init 5 = .ok (.aload_n 0, 1) := dk_42 (dk_at dksJ31_init_0 5 rfl rfl)
theorem dJ31_init_6 : decode cJ31_init 6 = .ok (.invokespecial 7, 3) := dk_183 0 7 (dk_at dksJ31_init_0 6 rfl rfl)
theorem dJ31_init_9 : decode cJ31_init 9 = .ok (.aload_n 0, 1) := dk_42 (dk_at dksJ31_init_0 9 rfl rfl)
theorem dJ31_init_10 : decode cJ31_init 10 = .ok (.aload_n 1, 1) := dk_43 (dk_at dksJ31_init_0 10 rfl rfl)
theorem dJ31_init_11 : decode cJ31_init 11 = .ok (.getfield 13, 3) := dk_180 0 13 (dk_at dksJ31_init_0 11 rfl rfl)
theorem dJ31_init_14 : decode cJ31_init 14 = .ok (.putfield 19, 3) := dk_181 0 19 (dk_at dksJ31_init_0 14 rfl rfl)
theorem dJ31_init_17 : decode cJ31_init 17 = .ok (.aload_n 0, 1) := dk_42 (dk_at dksJ31_init_0 17 rfl rfl)
theorem dJ31_init_18 : decode cJ31_init 18 = .ok (.aconst_null, 1) := dk_1 (dk_at dksJ31_init_0 18 rfl rfl)
theorem dJ31_init_19 : decode cJ31_init 19 = .ok (.putfield 22, 3) := dk_181 0 22 (dk_at dksJ31_init_0 19 rfl rfl)
theorem dJ31_init_22 : decode cJ31_init 22 = .ok (.aload_n 0, 1) := dk_42 (dk_at dksJ31_init_0 22 rfl rfl)
theorem dJ31_init_23 : decode cJ31_init 23 = .ok (.aload_n 2, 1) := dk_44 (dk_at dksJ31_init_0 23 rfl rfl)
theorem dJ31_init_24 : decode cJ31_init 24 = .ok (.putfield 26, 3) := dk_181 0 26 (dk_at dksJ31_init_1 0 rfl rfl)
theorem dJ31_init_27 : decode cJ31_init 27 = .ok (.return_, 1) := dk_177 (dk_at dksJ31_init_1 3 rfl rfl)
abbrev cJ31_hasNext : ByteArray := prog_94_method_2_code
def yJ31_hasNext : MethodName := ⟨RJ31, "hasNext", "()Z"⟩
def dkwJ31_hasNext_0 : List UInt8 := [42, 180, 0, 26, 198, 0, 7, 4, 167, 0, 4, 3, 172]
abbrev dktJ31_hasNext_0 : List UInt8 := dkwJ31_hasNext_0 ++ []
theorem dksJ31_hasNext_0 : cJ31_hasNext.data.toList.drop 0 = dktJ31_hasNext_0 := by decide +kernel
theorem dJ31_hasNext_0 : decode cJ31_hasNext 0 = .ok (.aload_n 0, 1) := dk_42 (dk_at dksJ31_hasNext_0 0 rfl rfl)
theorem dJ31_hasNext_1 : decode cJ31_hasNext 1 = .ok (.getfield 26, 3) := dk_180 0 26 (dk_at dksJ31_hasNext_0 1 rfl rfl)
theorem dJ31_hasNext_4 : decode cJ31_hasNext 4 = .ok (.ifnull 7, 3) := dk_198 0 7 (dk_at dksJ31_hasNext_0 4 rfl rfl)
theorem dJ31_hasNext_7 : decode cJ31_hasNext 7 = .ok (.iconst 1, 1) := dk_4 (dk_at dksJ31_hasNext_0 7 rfl rfl)
theorem dJ31_hasNext_8 : decode cJ31_hasNext 8 = .ok (.goto 4, 3) := dk_167 0 4 (dk_at dksJ31_hasNext_0 8 rfl rfl)
theorem dJ31_hasNext_11 : decode cJ31_hasNext 11 = .ok (.iconst 0, 1) := dk_3 (dk_at dksJ31_hasNext_0 11 rfl rfl)
theorem dJ31_hasNext_12 : decode cJ31_hasNext 12 = .ok (.ireturn, 1) := dk_172 (dk_at dksJ31_hasNext_0 12 rfl rfl)
abbrev cJ31_nextEntry : ByteArray := prog_94_method_3_code
def yJ31_nextEntry : MethodName := ⟨RJ31, "nextEntry", "()Ljava/util/TreeMap$Entry;"⟩
def dkwJ31_nextEntry_2 : List UInt8 := [43, 181, 0, 22, 43, 176]
abbrev dktJ31_nextEntry_2 : List UInt8 := dkwJ31_nextEntry_2 ++ []
def dkwJ31_nextEntry_1 : List UInt8 := [42, 180, 0, 19, 159, 0, 11, 187, 0, 32, 89, 183, 0, 34, 191, 42, 43, 184, 0, 35, 181, 0, 26, 42]
abbrev dktJ31_nextEntry_1 : List UInt8 := dkwJ31_nextEntry_1 ++ dktJ31_nextEntry_2
def dkwJ31_nextEntry_0 : List UInt8 := [42, 180, 0, 26, 76, 43, 199, 0, 11, 187, 0, 29, 89, 183, 0, 31, 191, 42, 180, 0, 1, 180, 0, 13]
abbrev dktJ31_nextEntry_0 : List UInt8 := dkwJ31_nextEntry_0 ++ dktJ31_nextEntry_1
theorem dksJ31_nextEntry_0 : cJ31_nextEntry.data.toList.drop 0 = dktJ31_nextEntry_0 := by decide +kernel
theorem dksJ31_nextEntry_1 : cJ31_nextEntry.data.toList.drop 24 = dktJ31_nextEntry_1 := dk_seg dksJ31_nextEntry_0 24 rfl rfl
theorem dksJ31_nextEntry_2 : cJ31_nextEntry.data.toList.drop 48 = dktJ31_nextEntry_2 := dk_seg dksJ31_nextEntry_1 24 rfl rfl
theorem dJ31_nextEntry_0 : decode cJ31_nextEntry 0 = .ok (.aload_n 0, 1) := dk_42 (dk_at dksJ31_nextEntry_0 0 rfl rfl)
theorem dJ31_nextEntry_1 : decode cJ31_nextEntry 1 = .ok (.getfield 26, 3) := dk_180 0 26 (dk_at dksJ31_nextEntry_0 1 rfl rfl)
theorem dJ31_nextEntry_4 : decode cJ31_nextEntry 4 = .ok (.astore_n 1, 1) := dk_76 (dk_at dksJ31_nextEntry_0 4 rfl rfl)
theorem dJ31_nextEntry_5 : decode cJ31_nextEntry 5 = .ok (.aload_n 1, 1) := dk_43 (dk_at dksJ31_nextEntry_0 5 rfl rfl)
theorem dJ31_nextEntry_6 : decode cJ31_nextEntry 6 = .ok (.ifnonnull 11, 3) := dk_199 0 11 (dk_at dksJ31_nextEntry_0 6 rfl rfl)
theorem dJ31_nextEntry_9 : decode cJ31_nextEntry 9 = .ok (.new 29, 3) := dk_187 0 29 (dk_at dksJ31_nextEntry_0 9 rfl rfl)
theorem dJ31_nextEntry_12 : decode cJ31_nextEntry 12 = .ok (.dup, 1) := dk_89 (dk_at dksJ31_nextEntry_0 12 rfl rfl)
theorem dJ31_nextEntry_13 : decode cJ31_nextEntry 13 = .ok (.invokespecial 31, 3) := dk_183 0 31 (dk_at dksJ31_nextEntry_0 13 rfl rfl)
theorem dJ31_nextEntry_16 : decode cJ31_nextEntry 16 = .ok (.athrow, 1) := dk_191 (dk_at dksJ31_nextEntry_0 16 rfl rfl)
theorem dJ31_nextEntry_17 : decode cJ31_nextEntry 17 = .ok (.aload_n 0, 1) := dk_42 (dk_at dksJ31_nextEntry_0 17 rfl rfl)
theorem dJ31_nextEntry_18 : decode cJ31_nextEntry 18 = .ok (.getfield 1, 3) := dk_180 0 1 (dk_at dksJ31_nextEntry_0 18 rfl rfl)
theorem dJ31_nextEntry_21 : decode cJ31_nextEntry 21 = .ok (.getfield 13, 3) := dk_180 0 13 (dk_at dksJ31_nextEntry_0 21 rfl rfl)
theorem dJ31_nextEntry_24 : decode cJ31_nextEntry 24 = .ok (.aload_n 0, 1) := dk_42 (dk_at dksJ31_nextEntry_1 0 rfl rfl)
theorem dJ31_nextEntry_25 : decode cJ31_nextEntry 25 = .ok (.getfield 19, 3) := dk_180 0 19 (dk_at dksJ31_nextEntry_1 1 rfl rfl)
theorem dJ31_nextEntry_28 : decode cJ31_nextEntry 28 = .ok (.if_icmp .eq 11, 3) := dk_159 0 11 (dk_at dksJ31_nextEntry_1 4 rfl rfl)
theorem dJ31_nextEntry_31 : decode cJ31_nextEntry 31 = .ok (.new 32, 3) := dk_187 0 32 (dk_at dksJ31_nextEntry_1 7 rfl rfl)
theorem dJ31_nextEntry_34 : decode cJ31_nextEntry 34 = .ok (.dup, 1) := dk_89 (dk_at dksJ31_nextEntry_1 10 rfl rfl)
theorem dJ31_nextEntry_35 : decode cJ31_nextEntry 35 = .ok (.invokespecial 34, 3) := dk_183 0 34 (dk_at dksJ31_nextEntry_1 11 rfl rfl)
theorem dJ31_nextEntry_38 : decode cJ31_nextEntry 38 = .ok (.athrow, 1) := dk_191 (dk_at dksJ31_nextEntry_1 14 rfl rfl)
theorem dJ31_nextEntry_39 : decode cJ31_nextEntry 39 = .ok (.aload_n 0, 1) := dk_42 (dk_at dksJ31_nextEntry_1 15 rfl rfl)
theorem dJ31_nextEntry_40 : decode cJ31_nextEntry 40 = .ok (.aload_n 1, 1) := dk_43 (dk_at dksJ31_nextEntry_1 16 rfl rfl)
theorem dJ31_nextEntry_41 : decode cJ31_nextEntry 41 = .ok (.invokestatic 35, 3) := dk_184 0 35 (dk_at dksJ31_nextEntry_1 17 rfl rfl)
theorem dJ31_nextEntry_44 : decode cJ31_nextEntry 44 = .ok (.putfield 26, 3) := dk_181 0 26 (dk_at dksJ31_nextEntry_1 20 rfl rfl)
theorem dJ31_nextEntry_47 : decode cJ31_nextEntry 47 = .ok (.aload_n 0, 1) := dk_42 (dk_at dksJ31_nextEntry_1 23 rfl rfl)
theorem dJ31_nextEntry_48 : decode cJ31_nextEntry 48 = .ok (.aload_n 1, 1) := dk_43 (dk_at dksJ31_nextEntry_2 0 rfl rfl)
theorem dJ31_nextEntry_49 : decode cJ31_nextEntry 49 = .ok (.putfield 22, 3) := dk_181 0 22 (dk_at dksJ31_nextEntry_2 1 rfl rfl)
theorem dJ31_nextEntry_52 : decode cJ31_nextEntry 52 = .ok (.aload_n 1, 1) := dk_43 (dk_at dksJ31_nextEntry_2 4 rfl rfl)
theorem dJ31_nextEntry_53 : decode cJ31_nextEntry 53 = .ok (.areturn, 1) := dk_176 (dk_at dksJ31_nextEntry_2 5 rfl rfl)
abbrev cJ31_remove : ByteArray := prog_94_method_5_code
def yJ31_remove : MethodName := ⟨RJ31, "remove", "()V"⟩
def dkwJ31_remove_3 : List UInt8 := [180, 0, 22, 182, 0, 53, 42, 42, 180, 0, 1, 180, 0, 13, 181, 0, 19, 42, 1, 181, 0, 22, 177]
abbrev dktJ31_remove_3 : List UInt8 := dkwJ31_remove_3 ++ []
def dkwJ31_remove_2 : List UInt8 := [42, 180, 0, 22, 180, 0, 50, 198, 0, 11, 42, 42, 180, 0, 22, 181, 0, 26, 42, 180, 0, 1, 42]
abbrev dktJ31_remove_2 : List UInt8 := dkwJ31_remove_2 ++ dktJ31_remove_3
def dkwJ31_remove_1 : List UInt8 := [180, 0, 19, 159, 0, 11, 187, 0, 32, 89, 183, 0, 34, 191, 42, 180, 0, 22, 180, 0, 45, 198, 0, 21]
abbrev dktJ31_remove_1 : List UInt8 := dkwJ31_remove_1 ++ dktJ31_remove_2
def dkwJ31_remove_0 : List UInt8 := [42, 180, 0, 22, 199, 0, 11, 187, 0, 42, 89, 183, 0, 44, 191, 42, 180, 0, 1, 180, 0, 13, 42]
abbrev dktJ31_remove_0 : List UInt8 := dkwJ31_remove_0 ++ dktJ31_remove_1
theorem dksJ31_remove_0 : cJ31_remove.data.toList.drop 0 = dktJ31_remove_0 := by decide +kernel
theorem dksJ31_remove_1 : cJ31_remove.data.toList.drop 23 = dktJ31_remove_1 := dk_seg dksJ31_remove_0 23 rfl rfl
theorem dksJ31_remove_2 : cJ31_remove.data.toList.drop 47 = dktJ31_remove_2 := dk_seg dksJ31_remove_1 24 rfl rfl
theorem dksJ31_remove_3 : cJ31_remove.data.toList.drop 70 = dktJ31_remove_3 := dk_seg dksJ31_remove_2 23 rfl rfl
theorem dJ31_remove_0 : decode cJ31_remove 0 = .ok (.aload_n 0, 1) := dk_42 (dk_at dksJ31_remove_0 0 rfl rfl)
theorem dJ31_remove_1 : decode cJ31_remove 1 = .ok (.getfield 22, 3) := dk_180 0 22 (dk_at dksJ31_remove_0 1 rfl rfl)
theorem dJ31_remove_4 : decode cJ31_remove 4 = .ok (.ifnonnull 11, 3) := dk_199 0 11 (dk_at dksJ31_remove_0 4 rfl rfl)
theorem dJ31_remove_7 : decode cJ31_remove 7 = .ok (.new 42, 3) := dk_187 0 42 (dk_at dksJ31_remove_0 7 rfl rfl)
theorem dJ31_remove_10 : decode cJ31_remove 10 = .ok (.dup, 1) := dk_89 (dk_at dksJ31_remove_0 10 rfl rfl)
theorem dJ31_remove_11 : decode cJ31_remove 11 = .ok (.invokespecial 44, 3) := dk_183 0 44 (dk_at dksJ31_remove_0 11 rfl rfl)
theorem dJ31_remove_14 : decode cJ31_remove 14 = .ok (.athrow, 1) := dk_191 (dk_at dksJ31_remove_0 14 rfl rfl)
theorem dJ31_remove_15 : decode cJ31_remove 15 = .ok (.aload_n 0, 1) := dk_42 (dk_at dksJ31_remove_0 15 rfl rfl)
theorem dJ31_remove_16 : decode cJ31_remove 16 = .ok (.getfield 1, 3) := dk_180 0 1 (dk_at dksJ31_remove_0 16 rfl rfl)
theorem dJ31_remove_19 : decode cJ31_remove 19 = .ok (.getfield 13, 3) := dk_180 0 13 (dk_at dksJ31_remove_0 19 rfl rfl)
theorem dJ31_remove_22 : decode cJ31_remove 22 = .ok (.aload_n 0, 1) := dk_42 (dk_at dksJ31_remove_0 22 rfl rfl)
theorem dJ31_remove_23 : decode cJ31_remove 23 = .ok (.getfield 19, 3) := dk_180 0 19 (dk_at dksJ31_remove_1 0 rfl rfl)
theorem dJ31_remove_26 : decode cJ31_remove 26 = .ok (.if_icmp .eq 11, 3) := dk_159 0 11 (dk_at dksJ31_remove_1 3 rfl rfl)
theorem dJ31_remove_29 : decode cJ31_remove 29 = .ok (.new 32, 3) := dk_187 0 32 (dk_at dksJ31_remove_1 6 rfl rfl)
theorem dJ31_remove_32 : decode cJ31_remove 32 = .ok (.dup, 1) := dk_89 (dk_at dksJ31_remove_1 9 rfl rfl)
theorem dJ31_remove_33 : decode cJ31_remove 33 = .ok (.invokespecial 34, 3) := dk_183 0 34 (dk_at dksJ31_remove_1 10 rfl rfl)
theorem dJ31_remove_36 : decode cJ31_remove 36 = .ok (.athrow, 1) := dk_191 (dk_at dksJ31_remove_1 13 rfl rfl)
theorem dJ31_remove_37 : decode cJ31_remove 37 = .ok (.aload_n 0, 1) := dk_42 (dk_at dksJ31_remove_1 14 rfl rfl)
theorem dJ31_remove_38 : decode cJ31_remove 38 = .ok (.getfield 22, 3) := dk_180 0 22 (dk_at dksJ31_remove_1 15 rfl rfl)
theorem dJ31_remove_41 : decode cJ31_remove 41 = .ok (.getfield 45, 3) := dk_180 0 45 (dk_at dksJ31_remove_1 18 rfl rfl)
theorem dJ31_remove_44 : decode cJ31_remove 44 = .ok (.ifnull 21, 3) := dk_198 0 21 (dk_at dksJ31_remove_1 21 rfl rfl)
theorem dJ31_remove_47 : decode cJ31_remove 47 = .ok (.aload_n 0, 1) := dk_42 (dk_at dksJ31_remove_2 0 rfl rfl)
theorem dJ31_remove_48 : decode cJ31_remove 48 = .ok (.getfield 22, 3) := dk_180 0 22 (dk_at dksJ31_remove_2 1 rfl rfl)
theorem dJ31_remove_51 : decode cJ31_remove 51 = .ok (.getfield 50, 3) := dk_180 0 50 (dk_at dksJ31_remove_2 4 rfl rfl)
theorem dJ31_remove_54 : decode cJ31_remove 54 = .ok (.ifnull 11, 3) := dk_198 0 11 (dk_at dksJ31_remove_2 7 rfl rfl)
theorem dJ31_remove_57 : decode cJ31_remove 57 = .ok (.aload_n 0, 1) := dk_42 (dk_at dksJ31_remove_2 10 rfl rfl)
theorem dJ31_remove_58 : decode cJ31_remove 58 = .ok (.aload_n 0, 1) := dk_42 (dk_at dksJ31_remove_2 11 rfl rfl)
theorem dJ31_remove_59 : decode cJ31_remove 59 = .ok (.getfield 22, 3) := dk_180 0 22 (dk_at dksJ31_remove_2 12 rfl rfl)
theorem dJ31_remove_62 : decode cJ31_remove 62 = .ok (.putfield 26, 3) := dk_181 0 26 (dk_at dksJ31_remove_2 15 rfl rfl)
theorem dJ31_remove_65 : decode cJ31_remove 65 = .ok (.aload_n 0, 1) := dk_42 (dk_at dksJ31_remove_2 18 rfl rfl)
theorem dJ31_remove_66 : decode cJ31_remove 66 = .ok (.getfield 1, 3) := dk_180 0 1 (dk_at dksJ31_remove_2 19 rfl rfl)
theorem dJ31_remove_69 : decode cJ31_remove 69 = .ok (.aload_n 0, 1) := dk_42 (dk_at dksJ31_remove_2 22 rfl rfl)
theorem dJ31_remove_70 : decode cJ31_remove 70 = .ok (.getfield 22, 3) := dk_180 0 22 (dk_at dksJ31_remove_3 0 rfl rfl)
theorem dJ31_remove_73 : decode cJ31_remove 73 = .ok (.invokevirtual 53, 3) := dk_182 0 53 (dk_at dksJ31_remove_3 3 rfl rfl)
theorem dJ31_remove_76 : decode cJ31_remove 76 = .ok (.aload_n 0, 1) := dk_42 (dk_at dksJ31_remove_3 6 rfl rfl)
theorem dJ31_remove_77 : decode cJ31_remove 77 = .ok (.aload_n 0, 1) := dk_42 (dk_at dksJ31_remove_3 7 rfl rfl)
theorem dJ31_remove_78 : decode cJ31_remove 78 = .ok (.getfield 1, 3) := dk_180 0 1 (dk_at dksJ31_remove_3 8 rfl rfl)
theorem dJ31_remove_81 : decode cJ31_remove 81 = .ok (.getfield 13, 3) := dk_180 0 13 (dk_at dksJ31_remove_3 11 rfl rfl)
theorem dJ31_remove_84 : decode cJ31_remove 84 = .ok (.putfield 19, 3) := dk_181 0 19 (dk_at dksJ31_remove_3 14 rfl rfl)
theorem dJ31_remove_87 : decode cJ31_remove 87 = .ok (.aload_n 0, 1) := dk_42 (dk_at dksJ31_remove_3 17 rfl rfl)
theorem dJ31_remove_88 : decode cJ31_remove 88 = .ok (.aconst_null, 1) := dk_1 (dk_at dksJ31_remove_3 18 rfl rfl)
theorem dJ31_remove_89 : decode cJ31_remove 89 = .ok (.putfield 22, 3) := dk_181 0 22 (dk_at dksJ31_remove_3 19 rfl rfl)
theorem dJ31_remove_92 : decode cJ31_remove 92 = .ok (.return_, 1) := dk_177 (dk_at dksJ31_remove_3 22 rfl rfl)
theorem q116 : (Jvm.Cond.initialized "java/util/TreeMap$PrivateEntryIterator") ∈ lw_all := lw_g (lw_at lw_m1 40 rfl) rfl
theorem q874 : (Jvm.Cond.instanceMethod ({ cls := "java/util/TreeMap$PrivateEntryIterator", name := "<init>", desc := "(Ljava/util/TreeMap;Ljava/util/TreeMap$Entry;)V" } : Jvm.MethodName)) ∈ lw_all := lw_g (lw_at lw_m4 78 rfl) rfl
theorem q875 : (Jvm.Cond.code ({ cls := "java/util/TreeMap$PrivateEntryIterator", name := "<init>", desc := "(Ljava/util/TreeMap;Ljava/util/TreeMap$Entry;)V" } : Jvm.MethodName) prog_94_method_1_code (3 : Nat) (Option.none : Option Jvm.ClassFile.FieldType)) ∈ lw_all := lw_g (lw_at lw_m4 79 rfl) rfl
theorem q876 : (Jvm.Cond.methodLink "java/util/TreeMap$PrivateEntryIterator" (7 : Nat) ({ cls := "java/lang/Object", name := "<init>", desc := "()V" } : Jvm.MethodName)) ∈ lw_all := lw_g (lw_at lw_m4 80 rfl) rfl
theorem q877 : (Jvm.Cond.fieldLink "java/util/TreeMap$PrivateEntryIterator" (26 : Nat) "java/util/TreeMap$PrivateEntryIterator" "next" "Ljava/util/TreeMap$Entry;") ∈ lw_all := lw_g (lw_at lw_m4 81 rfl) rfl
theorem q878 : (Jvm.Cond.fieldLink "java/util/TreeMap$PrivateEntryIterator" (22 : Nat) "java/util/TreeMap$PrivateEntryIterator" "lastReturned" "Ljava/util/TreeMap$Entry;") ∈ lw_all := lw_g (lw_at lw_m4 82 rfl) rfl
theorem q879 : (Jvm.Cond.fieldLink "java/util/TreeMap$PrivateEntryIterator" (19 : Nat) "java/util/TreeMap$PrivateEntryIterator" "expectedModCount" "I") ∈ lw_all := lw_g (lw_at lw_m4 83 rfl) rfl
theorem q880 : (Jvm.Cond.fieldLink "java/util/TreeMap$PrivateEntryIterator" (1 : Nat) "java/util/TreeMap$PrivateEntryIterator" "this$0" "Ljava/util/TreeMap;") ∈ lw_all := lw_g (lw_at lw_m4 84 rfl) rfl
theorem q882 : (Jvm.Cond.soleField "java/util/TreeMap$PrivateEntryIterator" "next") ∈ lw_all := lw_g (lw_at lw_m4 86 rfl) rfl
theorem q884 : (Jvm.Cond.soleField "java/util/TreeMap$PrivateEntryIterator" "lastReturned") ∈ lw_all := lw_g (lw_at lw_m4 88 rfl) rfl
theorem q886 : (Jvm.Cond.soleField "java/util/TreeMap$PrivateEntryIterator" "expectedModCount") ∈ lw_all := lw_g (lw_at lw_m4 90 rfl) rfl
theorem q888 : (Jvm.Cond.soleField "java/util/TreeMap$PrivateEntryIterator" "this$0") ∈ lw_all := lw_g (lw_at lw_m4 92 rfl) rfl
theorem q954 : (Jvm.Cond.instanceMethod ({ cls := "java/util/TreeMap$PrivateEntryIterator", name := "hasNext", desc := "()Z" } : Jvm.MethodName)) ∈ lw_all := lw_g (lw_at lw_m4 158 rfl) rfl
theorem q955 : (Jvm.Cond.publicMethod ({ cls := "java/util/TreeMap$PrivateEntryIterator", name := "hasNext", desc := "()Z" } : Jvm.MethodName)) ∈ lw_tbl := lw_at lw_m4 159 rfl
theorem q956 : (Jvm.Cond.code ({ cls := "java/util/TreeMap$PrivateEntryIterator", name := "hasNext", desc := "()Z" } : Jvm.MethodName) prog_94_method_2_code (1 : Nat) (Option.some Jvm.ClassFile.FieldType.boolean)) ∈ lw_all := lw_g (lw_at lw_m4 160 rfl) rfl
theorem q1025 : (Jvm.Cond.declares ({ cls := "java/util/TreeMap$PrivateEntryIterator", name := "nextEntry", desc := "()Ljava/util/TreeMap$Entry;" } : Jvm.MethodName)) ∈ lw_tbl := lw_at lw_m4 229 rfl
theorem q1027 : (Jvm.Cond.instanceMethod ({ cls := "java/util/TreeMap$PrivateEntryIterator", name := "nextEntry", desc := "()Ljava/util/TreeMap$Entry;" } : Jvm.MethodName)) ∈ lw_all := lw_g (lw_at lw_m4 231 rfl) rfl
theorem q1028 : (Jvm.Cond.code ({ cls := "java/util/TreeMap$PrivateEntryIterator", name := "nextEntry", desc := "()Ljava/util/TreeMap$Entry;" } : Jvm.MethodName) prog_94_method_3_code (2 : Nat) (Option.some (Jvm.ClassFile.FieldType.object "java/util/TreeMap$Entry"))) ∈ lw_all := lw_g (lw_at lw_m4 232 rfl) rfl
theorem q1029 : (Jvm.Cond.classLink "java/util/TreeMap$PrivateEntryIterator" (29 : Nat) "java/util/NoSuchElementException") ∈ lw_all := lw_g (lw_at lw_m4 233 rfl) rfl
theorem q1030 : (Jvm.Cond.methodLink "java/util/TreeMap$PrivateEntryIterator" (31 : Nat) ({ cls := "java/util/NoSuchElementException", name := "<init>", desc := "()V" } : Jvm.MethodName)) ∈ lw_all := lw_g (lw_at lw_m4 234 rfl) rfl
theorem q1031 : (Jvm.Cond.methodLink "java/util/TreeMap$PrivateEntryIterator" (35 : Nat) ({ cls := "java/util/TreeMap", name := "successor", desc := "(Ljava/util/TreeMap$Entry;)Ljava/util/TreeMap$Entry;" } : Jvm.MethodName)) ∈ lw_all := lw_g (lw_at lw_m4 235 rfl) rfl
theorem q1874 : (Jvm.Cond.fieldLinkNest "java/util/TreeMap$PrivateEntryIterator" (13 : Nat) "java/util/TreeMap" "modCount" "I" "java/util/TreeMap") ∈ lw_tbl := lw_at lw_m8 118 rfl
theorem q2112 : (Jvm.Cond.fieldLink "java/util/TreeMap$PrivateEntryIterator" (45 : Nat) "java/util/TreeMap$Entry" "left" "Ljava/util/TreeMap$Entry;") ∈ lw_all := lw_g (lw_at lw_m9 116 rfl) rfl
theorem q2114 : (Jvm.Cond.fieldLink "java/util/TreeMap$PrivateEntryIterator" (50 : Nat) "java/util/TreeMap$Entry" "right" "Ljava/util/TreeMap$Entry;") ∈ lw_all := lw_g (lw_at lw_m9 118 rfl) rfl
theorem q2300 : (Jvm.Cond.instanceMethod ({ cls := "java/util/TreeMap$PrivateEntryIterator", name := "remove", desc := "()V" } : Jvm.MethodName)) ∈ lw_all := lw_g (lw_at lw_m10 64 rfl) rfl
theorem q2301 : (Jvm.Cond.publicMethod ({ cls := "java/util/TreeMap$PrivateEntryIterator", name := "remove", desc := "()V" } : Jvm.MethodName)) ∈ lw_tbl := lw_at lw_m10 65 rfl
theorem q2302 : (Jvm.Cond.code ({ cls := "java/util/TreeMap$PrivateEntryIterator", name := "remove", desc := "()V" } : Jvm.MethodName) prog_94_method_5_code (1 : Nat) (Option.none : Option Jvm.ClassFile.FieldType)) ∈ lw_all := lw_g (lw_at lw_m10 66 rfl) rfl
theorem q2303 : (Jvm.Cond.classLink "java/util/TreeMap$PrivateEntryIterator" (42 : Nat) "java/lang/IllegalStateException") ∈ lw_all := lw_g (lw_at lw_m10 67 rfl) rfl
theorem q2304 : (Jvm.Cond.methodLink "java/util/TreeMap$PrivateEntryIterator" (44 : Nat) ({ cls := "java/lang/IllegalStateException", name := "<init>", desc := "()V" } : Jvm.MethodName)) ∈ lw_all := lw_g (lw_at lw_m10 68 rfl) rfl
theorem q2305 : (Jvm.Cond.methodLinkNest "java/util/TreeMap$PrivateEntryIterator" (53 : Nat) ({ cls := "java/util/TreeMap", name := "deleteEntry", desc := "(Ljava/util/TreeMap$Entry;)V" } : Jvm.MethodName) "java/util/TreeMap") ∈ lw_tbl := lw_at lw_m10 69 rfl
/-! java/util/TreeMap$EntryIterator -/
def RJ32 : String := "java/util/TreeMap$EntryIterator"
def TJ32 : u_T := fun k => match k with
  | 0 => ("java/util/TreeMap$PrivateEntryIterator", "next", "Ljava/util/TreeMap$Entry;", false)
  | 1 => ("java/util/TreeMap$PrivateEntryIterator", "lastReturned", "Ljava/util/TreeMap$Entry;", false)
  | 2 => ("java/util/TreeMap$PrivateEntryIterator", "expectedModCount", "I", false)
  | _ => ("java/util/TreeMap$PrivateEntryIterator", "this$0", "Ljava/util/TreeMap;", true)
def tyJ32 : Nat → FieldType := fun k => match k with
  | 0 => .object "java/util/TreeMap$Entry"
  | 1 => .object "java/util/TreeMap$Entry"
  | 2 => .int
  | _ => .object "java/util/TreeMap"
abbrev wsJ320 : List Cond := u_ws RJ32 TJ32 4
theorem nmJ32 : ∀ a, a < 4 → ∀ b, b < 4 → a ≠ b → (TJ32 a).2.1 ≠ (TJ32 b).2.1 := by decide +kernel
theorem tyJ32_ok : ∀ k, k < 4 → parseFieldDescriptor (TJ32 k).2.2.1 = some (tyJ32 k) := by decide +kernel
abbrev cJ32_init : ByteArray := prog_89_method_1_code
def yJ32_init : MethodName := ⟨RJ32, "<init>", "(Ljava/util/TreeMap;Ljava/util/TreeMap$Entry;)V"⟩
def dkwJ32_init_0 : List UInt8 := [42, 43, 44, 183, 0, 1, 177]
abbrev dktJ32_init_0 : List UInt8 := dkwJ32_init_0 ++ []
theorem dksJ32_init_0 : cJ32_init.data.toList.drop 0 = dktJ32_init_0 := by decide +kernel
theorem dJ32_init_0 : decode cJ32_init 0 = .ok (.aload_n 0, 1) := dk_42 (dk_at dksJ32_init_0 0 rfl rfl)
theorem dJ32_init_1 : decode cJ32_init 1 = .ok (.aload_n 1, 1) := dk_43 (dk_at dksJ32_init_0 1 rfl rfl)
theorem dJ32_init_2 : decode cJ32_init 2 = .ok (.aload_n 2, 1) := dk_44 (dk_at dksJ32_init_0 2 rfl rfl)
theorem dJ32_init_3 : decode cJ32_init 3 = .ok (.invokespecial 1, 3) := dk_183 0 1 (dk_at dksJ32_init_0 3 rfl rfl)
theorem dJ32_init_6 : decode cJ32_init 6 = .ok (.return_, 1) := dk_177 (dk_at dksJ32_init_0 6 rfl rfl)
abbrev cJ32_next : ByteArray := prog_89_method_3_code
def yJ32_next : MethodName := ⟨RJ32, "next", "()Ljava/lang/Object;"⟩
theorem dJ32_next_0 : decode cJ32_next 0 = .ok (.aload_n 0, 1) := by decide +kernel
theorem dJ32_next_1 : decode cJ32_next 1 = .ok (.invokevirtual 13, 3) := by decide +kernel
theorem dJ32_next_4 : decode cJ32_next 4 = .ok (.areturn, 1) := by decide +kernel
abbrev cJ32_next_2 : ByteArray := prog_89_method_2_code
def yJ32_next_2 : MethodName := ⟨RJ32, "next", "()Ljava/util/Map$Entry;"⟩
theorem dJ32_next_2_0 : decode cJ32_next_2 0 = .ok (.aload_n 0, 1) := by decide +kernel
theorem dJ32_next_2_1 : decode cJ32_next_2 1 = .ok (.invokevirtual 7, 3) := by decide +kernel
theorem dJ32_next_2_4 : decode cJ32_next_2 4 = .ok (.areturn, 1) := by decide +kernel
theorem q117 : (Jvm.Cond.initialized "java/util/TreeMap$EntryIterator") ∈ lw_all := lw_g (lw_at lw_m1 41 rfl) rfl
theorem q776 : (Jvm.Cond.selects "java/util/TreeMap$EntryIterator" ({ cls := "java/lang/Object", name := "getClass", desc := "()Ljava/lang/Class;" } : Jvm.MethodName) ({ cls := "java/lang/Object", name := "getClass", desc := "()Ljava/lang/Class;" } : Jvm.MethodName)) ∈ lw_all := lw_g (lw_at lw_m3 220 rfl) rfl
theorem q865 : (Jvm.Cond.instantiable "java/util/TreeMap$EntryIterator" (4 : Nat)) ∈ lw_all := lw_g (lw_at lw_m4 69 rfl) rfl
theorem q871 : (Jvm.Cond.instanceMethod ({ cls := "java/util/TreeMap$EntryIterator", name := "<init>", desc := "(Ljava/util/TreeMap;Ljava/util/TreeMap$Entry;)V" } : Jvm.MethodName)) ∈ lw_all := lw_g (lw_at lw_m4 75 rfl) rfl
theorem q872 : (Jvm.Cond.code ({ cls := "java/util/TreeMap$EntryIterator", name := "<init>", desc := "(Ljava/util/TreeMap;Ljava/util/TreeMap$Entry;)V" } : Jvm.MethodName) prog_89_method_1_code (3 : Nat) (Option.none : Option Jvm.ClassFile.FieldType)) ∈ lw_all := lw_g (lw_at lw_m4 76 rfl) rfl
theorem q873 : (Jvm.Cond.methodLink "java/util/TreeMap$EntryIterator" (1 : Nat) ({ cls := "java/util/TreeMap$PrivateEntryIterator", name := "<init>", desc := "(Ljava/util/TreeMap;Ljava/util/TreeMap$Entry;)V" } : Jvm.MethodName)) ∈ lw_all := lw_g (lw_at lw_m4 77 rfl) rfl
theorem q881 : (Jvm.Cond.lays "java/util/TreeMap$EntryIterator" "java/util/TreeMap$PrivateEntryIterator" "next" "Ljava/util/TreeMap$Entry;") ∈ lw_all := lw_g (lw_at lw_m4 85 rfl) rfl
theorem q883 : (Jvm.Cond.lays "java/util/TreeMap$EntryIterator" "java/util/TreeMap$PrivateEntryIterator" "lastReturned" "Ljava/util/TreeMap$Entry;") ∈ lw_all := lw_g (lw_at lw_m4 87 rfl) rfl
theorem q885 : (Jvm.Cond.lays "java/util/TreeMap$EntryIterator" "java/util/TreeMap$PrivateEntryIterator" "expectedModCount" "I") ∈ lw_all := lw_g (lw_at lw_m4 89 rfl) rfl
theorem q887 : (Jvm.Cond.laysFinal "java/util/TreeMap$EntryIterator" "java/util/TreeMap$PrivateEntryIterator" "this$0" "Ljava/util/TreeMap;") ∈ lw_all := lw_g (lw_at lw_m4 91 rfl) rfl
theorem q889 : (Jvm.Cond.superclass "java/util/TreeMap$EntryIterator" "java/util/TreeMap$PrivateEntryIterator") ∈ lw_all := lw_g (lw_at lw_m4 93 rfl) rfl
theorem q951 : (Jvm.Cond.castable "java/util/TreeMap$EntryIterator" "java/util/Iterator") ∈ lw_tbl := lw_at lw_m4 155 rfl
theorem q952 : (Jvm.Cond.selects "java/util/TreeMap$EntryIterator" ({ cls := "java/util/Iterator", name := "hasNext", desc := "()Z" } : Jvm.MethodName) ({ cls := "java/util/TreeMap$PrivateEntryIterator", name := "hasNext", desc := "()Z" } : Jvm.MethodName)) ∈ lw_all := lw_g (lw_at lw_m4 156 rfl) rfl
theorem q953 : (Jvm.Cond.unhidden "java/util/TreeMap$EntryIterator" "hasNext" "()Z") ∈ lw_tbl := lw_at lw_m4 157 rfl
theorem q1014 : (Jvm.Cond.selects "java/util/TreeMap$EntryIterator" ({ cls := "java/util/Iterator", name := "next", desc := "()Ljava/lang/Object;" } : Jvm.MethodName) ({ cls := "java/util/TreeMap$EntryIterator", name := "next", desc := "()Ljava/lang/Object;" } : Jvm.MethodName)) ∈ lw_all := lw_g (lw_at lw_m4 218 rfl) rfl
theorem q1015 : (Jvm.Cond.unhidden "java/util/TreeMap$EntryIterator" "next" "()Ljava/lang/Object;") ∈ lw_tbl := lw_at lw_m4 219 rfl
theorem q1016 : (Jvm.Cond.instanceMethod ({ cls := "java/util/TreeMap$EntryIterator", name := "next", desc := "()Ljava/lang/Object;" } : Jvm.MethodName)) ∈ lw_all := lw_g (lw_at lw_m4 220 rfl) rfl
theorem q1017 : (Jvm.Cond.publicMethod ({ cls := "java/util/TreeMap$EntryIterator", name := "next", desc := "()Ljava/lang/Object;" } : Jvm.MethodName)) ∈ lw_tbl := lw_at lw_m4 221 rfl
theorem q1018 : (Jvm.Cond.code ({ cls := "java/util/TreeMap$EntryIterator", name := "next", desc := "()Ljava/lang/Object;" } : Jvm.MethodName) prog_89_method_3_code (1 : Nat) (Option.some (Jvm.ClassFile.FieldType.object "java/lang/Object"))) ∈ lw_all := lw_g (lw_at lw_m4 222 rfl) rfl
theorem q1019 : (Jvm.Cond.methodLink "java/util/TreeMap$EntryIterator" (13 : Nat) ({ cls := "java/util/TreeMap$EntryIterator", name := "next", desc := "()Ljava/util/Map$Entry;" } : Jvm.MethodName)) ∈ lw_all := lw_g (lw_at lw_m4 223 rfl) rfl
theorem q1020 : (Jvm.Cond.instanceMethod ({ cls := "java/util/TreeMap$EntryIterator", name := "next", desc := "()Ljava/util/Map$Entry;" } : Jvm.MethodName)) ∈ lw_all := lw_g (lw_at lw_m4 224 rfl) rfl
theorem q1021 : (Jvm.Cond.selects "java/util/TreeMap$EntryIterator" ({ cls := "java/util/TreeMap$EntryIterator", name := "next", desc := "()Ljava/util/Map$Entry;" } : Jvm.MethodName) ({ cls := "java/util/TreeMap$EntryIterator", name := "next", desc := "()Ljava/util/Map$Entry;" } : Jvm.MethodName)) ∈ lw_all := lw_g (lw_at lw_m4 225 rfl) rfl
theorem q1022 : (Jvm.Cond.code ({ cls := "java/util/TreeMap$EntryIterator", name := "next", desc := "()Ljava/util/Map$Entry;" } : Jvm.MethodName) prog_89_method_2_code (1 : Nat) (Option.some (Jvm.ClassFile.FieldType.object "java/util/Map$Entry"))) ∈ lw_all := lw_g (lw_at lw_m4 226 rfl) rfl
theorem q1023 : (Jvm.Cond.methodLink "java/util/TreeMap$EntryIterator" (7 : Nat) ({ cls := "java/util/TreeMap$EntryIterator", name := "nextEntry", desc := "()Ljava/util/TreeMap$Entry;" } : Jvm.MethodName)) ∈ lw_all := lw_g (lw_at lw_m4 227 rfl) rfl
theorem q1024 : (Jvm.Cond.sameMethod "java/util/TreeMap$EntryIterator" "java/util/TreeMap$PrivateEntryIterator" "nextEntry" "()Ljava/util/TreeMap$Entry;") ∈ lw_all := lw_g (lw_at lw_m4 228 rfl) rfl
theorem q1026 : (Jvm.Cond.selects "java/util/TreeMap$EntryIterator" ({ cls := "java/util/TreeMap$EntryIterator", name := "nextEntry", desc := "()Ljava/util/TreeMap$Entry;" } : Jvm.MethodName) ({ cls := "java/util/TreeMap$PrivateEntryIterator", name := "nextEntry", desc := "()Ljava/util/TreeMap$Entry;" } : Jvm.MethodName)) ∈ lw_all := lw_g (lw_at lw_m4 230 rfl) rfl
theorem q2298 : (Jvm.Cond.selects "java/util/TreeMap$EntryIterator" ({ cls := "java/util/Iterator", name := "remove", desc := "()V" } : Jvm.MethodName) ({ cls := "java/util/TreeMap$PrivateEntryIterator", name := "remove", desc := "()V" } : Jvm.MethodName)) ∈ lw_all := lw_g (lw_at lw_m10 62 rfl) rfl
theorem q2299 : (Jvm.Cond.unhidden "java/util/TreeMap$EntryIterator" "remove" "()V") ∈ lw_tbl := lw_at lw_m10 63 rfl
theorem q3721 : (Jvm.Cond.castable "java/util/TreeMap$EntryIterator" "java/lang/Object") ∈ lw_tbl := lw_at lw_m16 45 rfl
theorem in_J32 : ∀ w ∈ wsJ320, w ∈ lw_all := lw_in wsJ320 [881, 883, 885, 887] (by decide +kernel) (by decide +kernel)
/-! java/util/TreeMap$KeyIterator -/
def RJ33 : String := "java/util/TreeMap$KeyIterator"
def TJ33 : u_T := fun k => match k with
  | 0 => ("java/util/TreeMap$PrivateEntryIterator", "next", "Ljava/util/TreeMap$Entry;", false)
  | 1 => ("java/util/TreeMap$PrivateEntryIterator", "lastReturned", "Ljava/util/TreeMap$Entry;", false)
  | 2 => ("java/util/TreeMap$PrivateEntryIterator", "expectedModCount", "I", false)
  | _ => ("java/util/TreeMap$PrivateEntryIterator", "this$0", "Ljava/util/TreeMap;", true)
def tyJ33 : Nat → FieldType := fun k => match k with
  | 0 => .object "java/util/TreeMap$Entry"
  | 1 => .object "java/util/TreeMap$Entry"
  | 2 => .int
  | _ => .object "java/util/TreeMap"
abbrev wsJ330 : List Cond := u_ws RJ33 TJ33 4
theorem nmJ33 : ∀ a, a < 4 → ∀ b, b < 4 → a ≠ b → (TJ33 a).2.1 ≠ (TJ33 b).2.1 := by decide +kernel
theorem tyJ33_ok : ∀ k, k < 4 → parseFieldDescriptor (TJ33 k).2.2.1 = some (tyJ33 k) := by decide +kernel
abbrev cJ33_init : ByteArray := prog_91_method_1_code
def yJ33_init : MethodName := ⟨RJ33, "<init>", "(Ljava/util/TreeMap;Ljava/util/TreeMap$Entry;)V"⟩
def dkwJ33_init_0 : List UInt8 := [42, 43, 44, 183, 0, 1, 177]
abbrev dktJ33_init_0 : List UInt8 := dkwJ33_init_0 ++ []
theorem dksJ33_init_0 : cJ33_init.data.toList.drop 0 = dktJ33_init_0 := by decide +kernel
theorem dJ33_init_0 : decode cJ33_init 0 = .ok (.aload_n 0, 1) := dk_42 (dk_at dksJ33_init_0 0 rfl rfl)
theorem dJ33_init_1 : decode cJ33_init 1 = .ok (.aload_n 1, 1) := dk_43 (dk_at dksJ33_init_0 1 rfl rfl)
theorem dJ33_init_2 : decode cJ33_init 2 = .ok (.aload_n 2, 1) := dk_44 (dk_at dksJ33_init_0 2 rfl rfl)
theorem dJ33_init_3 : decode cJ33_init 3 = .ok (.invokespecial 1, 3) := dk_183 0 1 (dk_at dksJ33_init_0 3 rfl rfl)
theorem dJ33_init_6 : decode cJ33_init 6 = .ok (.return_, 1) := dk_177 (dk_at dksJ33_init_0 6 rfl rfl)
abbrev cJ33_next : ByteArray := prog_91_method_2_code
def yJ33_next : MethodName := ⟨RJ33, "next", "()Ljava/lang/Object;"⟩
def dkwJ33_next_0 : List UInt8 := [42, 182, 0, 7, 180, 0, 13, 176]
abbrev dktJ33_next_0 : List UInt8 := dkwJ33_next_0 ++ []
theorem dksJ33_next_0 : cJ33_next.data.toList.drop 0 = dktJ33_next_0 := by decide +kernel
theorem dJ33_next_0 : decode cJ33_next 0 = .ok (.aload_n 0, 1) := dk_42 (dk_at dksJ33_next_0 0 rfl rfl)
theorem dJ33_next_1 : decode cJ33_next 1 = .ok (.invokevirtual 7, 3) := dk_182 0 7 (dk_at dksJ33_next_0 1 rfl rfl)
theorem dJ33_next_4 : decode cJ33_next 4 = .ok (.getfield 13, 3) := dk_180 0 13 (dk_at dksJ33_next_0 4 rfl rfl)
theorem dJ33_next_7 : decode cJ33_next 7 = .ok (.areturn, 1) := dk_176 (dk_at dksJ33_next_0 7 rfl rfl)
theorem q118 : (Jvm.Cond.initialized "java/util/TreeMap$KeyIterator") ∈ lw_all := lw_g (lw_at lw_m1 42 rfl) rfl
theorem q778 : (Jvm.Cond.selects "java/util/TreeMap$KeyIterator" ({ cls := "java/lang/Object", name := "getClass", desc := "()Ljava/lang/Class;" } : Jvm.MethodName) ({ cls := "java/lang/Object", name := "getClass", desc := "()Ljava/lang/Class;" } : Jvm.MethodName)) ∈ lw_all := lw_g (lw_at lw_m3 222 rfl) rfl
theorem q902 : (Jvm.Cond.instantiable "java/util/TreeMap$KeyIterator" (4 : Nat)) ∈ lw_all := lw_g (lw_at lw_m4 106 rfl) rfl
theorem q905 : (Jvm.Cond.instanceMethod ({ cls := "java/util/TreeMap$KeyIterator", name := "<init>", desc := "(Ljava/util/TreeMap;Ljava/util/TreeMap$Entry;)V" } : Jvm.MethodName)) ∈ lw_all := lw_g (lw_at lw_m4 109 rfl) rfl
theorem q906 : (Jvm.Cond.code ({ cls := "java/util/TreeMap$KeyIterator", name := "<init>", desc := "(Ljava/util/TreeMap;Ljava/util/TreeMap$Entry;)V" } : Jvm.MethodName) prog_91_method_1_code (3 : Nat) (Option.none : Option Jvm.ClassFile.FieldType)) ∈ lw_all := lw_g (lw_at lw_m4 110 rfl) rfl
theorem q907 : (Jvm.Cond.methodLink "java/util/TreeMap$KeyIterator" (1 : Nat) ({ cls := "java/util/TreeMap$PrivateEntryIterator", name := "<init>", desc := "(Ljava/util/TreeMap;Ljava/util/TreeMap$Entry;)V" } : Jvm.MethodName)) ∈ lw_all := lw_g (lw_at lw_m4 111 rfl) rfl
theorem q908 : (Jvm.Cond.lays "java/util/TreeMap$KeyIterator" "java/util/TreeMap$PrivateEntryIterator" "next" "Ljava/util/TreeMap$Entry;") ∈ lw_all := lw_g (lw_at lw_m4 112 rfl) rfl
theorem q909 : (Jvm.Cond.lays "java/util/TreeMap$KeyIterator" "java/util/TreeMap$PrivateEntryIterator" "lastReturned" "Ljava/util/TreeMap$Entry;") ∈ lw_all := lw_g (lw_at lw_m4 113 rfl) rfl
theorem q910 : (Jvm.Cond.lays "java/util/TreeMap$KeyIterator" "java/util/TreeMap$PrivateEntryIterator" "expectedModCount" "I") ∈ lw_all := lw_g (lw_at lw_m4 114 rfl) rfl
theorem q911 : (Jvm.Cond.laysFinal "java/util/TreeMap$KeyIterator" "java/util/TreeMap$PrivateEntryIterator" "this$0" "Ljava/util/TreeMap;") ∈ lw_all := lw_g (lw_at lw_m4 115 rfl) rfl
theorem q912 : (Jvm.Cond.superclass "java/util/TreeMap$KeyIterator" "java/util/TreeMap$PrivateEntryIterator") ∈ lw_all := lw_g (lw_at lw_m4 116 rfl) rfl
theorem q957 : (Jvm.Cond.castable "java/util/TreeMap$KeyIterator" "java/util/Iterator") ∈ lw_tbl := lw_at lw_m4 161 rfl
theorem q958 : (Jvm.Cond.selects "java/util/TreeMap$KeyIterator" ({ cls := "java/util/Iterator", name := "hasNext", desc := "()Z" } : Jvm.MethodName) ({ cls := "java/util/TreeMap$PrivateEntryIterator", name := "hasNext", desc := "()Z" } : Jvm.MethodName)) ∈ lw_all := lw_g (lw_at lw_m4 162 rfl) rfl
theorem q959 : (Jvm.Cond.unhidden "java/util/TreeMap$KeyIterator" "hasNext" "()Z") ∈ lw_tbl := lw_at lw_m4 163 rfl
theorem q1034 : (Jvm.Cond.selects "java/util/TreeMap$KeyIterator" ({ cls := "java/util/Iterator", name := "next", desc := "()Ljava/lang/Object;" } : Jvm.MethodName) ({ cls := "java/util/TreeMap$KeyIterator", name := "next", desc := "()Ljava/lang/Object;" } : Jvm.MethodName)) ∈ lw_all := lw_g (lw_at lw_m4 238 rfl) rfl
theorem q1035 : (Jvm.Cond.unhidden "java/util/TreeMap$KeyIterator" "next" "()Ljava/lang/Object;") ∈ lw_tbl := lw_at lw_m4 239 rfl
theorem q1036 : (Jvm.Cond.instanceMethod ({ cls := "java/util/TreeMap$KeyIterator", name := "next", desc := "()Ljava/lang/Object;" } : Jvm.MethodName)) ∈ lw_all := lw_g (lw_at lw_m5 0 rfl) rfl
theorem q1037 : (Jvm.Cond.publicMethod ({ cls := "java/util/TreeMap$KeyIterator", name := "next", desc := "()Ljava/lang/Object;" } : Jvm.MethodName)) ∈ lw_tbl := lw_at lw_m5 1 rfl
theorem q1038 : (Jvm.Cond.code ({ cls := "java/util/TreeMap$KeyIterator", name := "next", desc := "()Ljava/lang/Object;" } : Jvm.MethodName) prog_91_method_2_code (1 : Nat) (Option.some (Jvm.ClassFile.FieldType.object "java/lang/Object"))) ∈ lw_all := lw_g (lw_at lw_m5 2 rfl) rfl
theorem q1039 : (Jvm.Cond.methodLink "java/util/TreeMap$KeyIterator" (7 : Nat) ({ cls := "java/util/TreeMap$KeyIterator", name := "nextEntry", desc := "()Ljava/util/TreeMap$Entry;" } : Jvm.MethodName)) ∈ lw_all := lw_g (lw_at lw_m5 3 rfl) rfl
theorem q1040 : (Jvm.Cond.sameMethod "java/util/TreeMap$KeyIterator" "java/util/TreeMap$PrivateEntryIterator" "nextEntry" "()Ljava/util/TreeMap$Entry;") ∈ lw_all := lw_g (lw_at lw_m5 4 rfl) rfl
theorem q1041 : (Jvm.Cond.selects "java/util/TreeMap$KeyIterator" ({ cls := "java/util/TreeMap$KeyIterator", name := "nextEntry", desc := "()Ljava/util/TreeMap$Entry;" } : Jvm.MethodName) ({ cls := "java/util/TreeMap$PrivateEntryIterator", name := "nextEntry", desc := "()Ljava/util/TreeMap$Entry;" } : Jvm.MethodName)) ∈ lw_all := lw_g (lw_at lw_m5 5 rfl) rfl
theorem q2107 : (Jvm.Cond.fieldLink "java/util/TreeMap$KeyIterator" (13 : Nat) "java/util/TreeMap$Entry" "key" "Ljava/lang/Object;") ∈ lw_all := lw_g (lw_at lw_m9 111 rfl) rfl
theorem q2314 : (Jvm.Cond.selects "java/util/TreeMap$KeyIterator" ({ cls := "java/util/Iterator", name := "remove", desc := "()V" } : Jvm.MethodName) ({ cls := "java/util/TreeMap$PrivateEntryIterator", name := "remove", desc := "()V" } : Jvm.MethodName)) ∈ lw_all := lw_g (lw_at lw_m10 78 rfl) rfl
theorem q2315 : (Jvm.Cond.unhidden "java/util/TreeMap$KeyIterator" "remove" "()V") ∈ lw_tbl := lw_at lw_m10 79 rfl
theorem q3710 : (Jvm.Cond.castable "java/util/TreeMap$KeyIterator" "java/lang/Object") ∈ lw_tbl := lw_at lw_m16 34 rfl
theorem in_J33 : ∀ w ∈ wsJ330, w ∈ lw_all := lw_in wsJ330 [908, 909, 910, 911] (by decide +kernel) (by decide +kernel)
/-! java/util/TreeMap$ValueIterator -/
def RJ34 : String := "java/util/TreeMap$ValueIterator"
def TJ34 : u_T := fun k => match k with
  | 0 => ("java/util/TreeMap$PrivateEntryIterator", "next", "Ljava/util/TreeMap$Entry;", false)
  | 1 => ("java/util/TreeMap$PrivateEntryIterator", "lastReturned", "Ljava/util/TreeMap$Entry;", false)
  | 2 => ("java/util/TreeMap$PrivateEntryIterator", "expectedModCount", "I", false)
  | _ => ("java/util/TreeMap$PrivateEntryIterator", "this$0", "Ljava/util/TreeMap;", true)
def tyJ34 : Nat → FieldType := fun k => match k with
  | 0 => .object "java/util/TreeMap$Entry"
  | 1 => .object "java/util/TreeMap$Entry"
  | 2 => .int
  | _ => .object "java/util/TreeMap"
abbrev wsJ340 : List Cond := u_ws RJ34 TJ34 4
theorem nmJ34 : ∀ a, a < 4 → ∀ b, b < 4 → a ≠ b → (TJ34 a).2.1 ≠ (TJ34 b).2.1 := by decide +kernel
theorem tyJ34_ok : ∀ k, k < 4 → parseFieldDescriptor (TJ34 k).2.2.1 = some (tyJ34 k) := by decide +kernel
abbrev cJ34_init : ByteArray := prog_95_method_1_code
def yJ34_init : MethodName := ⟨RJ34, "<init>", "(Ljava/util/TreeMap;Ljava/util/TreeMap$Entry;)V"⟩
def dkwJ34_init_0 : List UInt8 := [42, 43, 44, 183, 0, 1, 177]
abbrev dktJ34_init_0 : List UInt8 := dkwJ34_init_0 ++ []
theorem dksJ34_init_0 : cJ34_init.data.toList.drop 0 = dktJ34_init_0 := by decide +kernel
theorem dJ34_init_0 : decode cJ34_init 0 = .ok (.aload_n 0, 1) := dk_42 (dk_at dksJ34_init_0 0 rfl rfl)
theorem dJ34_init_1 : decode cJ34_init 1 = .ok (.aload_n 1, 1) := dk_43 (dk_at dksJ34_init_0 1 rfl rfl)
theorem dJ34_init_2 : decode cJ34_init 2 = .ok (.aload_n 2, 1) := dk_44 (dk_at dksJ34_init_0 2 rfl rfl)
theorem dJ34_init_3 : decode cJ34_init 3 = .ok (.invokespecial 1, 3) := dk_183 0 1 (dk_at dksJ34_init_0 3 rfl rfl)
theorem dJ34_init_6 : decode cJ34_init 6 = .ok (.return_, 1) := dk_177 (dk_at dksJ34_init_0 6 rfl rfl)
abbrev cJ34_next : ByteArray := prog_95_method_2_code
def yJ34_next : MethodName := ⟨RJ34, "next", "()Ljava/lang/Object;"⟩
def dkwJ34_next_0 : List UInt8 := [42, 182, 0, 7, 180, 0, 13, 176]
abbrev dktJ34_next_0 : List UInt8 := dkwJ34_next_0 ++ []
theorem dksJ34_next_0 : cJ34_next.data.toList.drop 0 = dktJ34_next_0 := by decide +kernel
theorem dJ34_next_0 : decode cJ34_next 0 = .ok (.aload_n 0, 1) := dk_42 (dk_at dksJ34_next_0 0 rfl rfl)
theorem dJ34_next_1 : decode cJ34_next 1 = .ok (.invokevirtual 7, 3) := dk_182 0 7 (dk_at dksJ34_next_0 1 rfl rfl)
theorem dJ34_next_4 : decode cJ34_next 4 = .ok (.getfield 13, 3) := dk_180 0 13 (dk_at dksJ34_next_0 4 rfl rfl)
theorem dJ34_next_7 : decode cJ34_next 7 = .ok (.areturn, 1) := dk_176 (dk_at dksJ34_next_0 7 rfl rfl)
theorem q119 : (Jvm.Cond.initialized "java/util/TreeMap$ValueIterator") ∈ lw_all := lw_g (lw_at lw_m1 43 rfl) rfl
theorem q780 : (Jvm.Cond.selects "java/util/TreeMap$ValueIterator" ({ cls := "java/lang/Object", name := "getClass", desc := "()Ljava/lang/Class;" } : Jvm.MethodName) ({ cls := "java/lang/Object", name := "getClass", desc := "()Ljava/lang/Class;" } : Jvm.MethodName)) ∈ lw_all := lw_g (lw_at lw_m3 224 rfl) rfl
theorem q924 : (Jvm.Cond.instantiable "java/util/TreeMap$ValueIterator" (4 : Nat)) ∈ lw_all := lw_g (lw_at lw_m4 128 rfl) rfl
theorem q927 : (Jvm.Cond.instanceMethod ({ cls := "java/util/TreeMap$ValueIterator", name := "<init>", desc := "(Ljava/util/TreeMap;Ljava/util/TreeMap$Entry;)V" } : Jvm.MethodName)) ∈ lw_all := lw_g (lw_at lw_m4 131 rfl) rfl
theorem q928 : (Jvm.Cond.code ({ cls := "java/util/TreeMap$ValueIterator", name := "<init>", desc := "(Ljava/util/TreeMap;Ljava/util/TreeMap$Entry;)V" } : Jvm.MethodName) prog_95_method_1_code (3 : Nat) (Option.none : Option Jvm.ClassFile.FieldType)) ∈ lw_all := lw_g (lw_at lw_m4 132 rfl) rfl
theorem q929 : (Jvm.Cond.methodLink "java/util/TreeMap$ValueIterator" (1 : Nat) ({ cls := "java/util/TreeMap$PrivateEntryIterator", name := "<init>", desc := "(Ljava/util/TreeMap;Ljava/util/TreeMap$Entry;)V" } : Jvm.MethodName)) ∈ lw_all := lw_g (lw_at lw_m4 133 rfl) rfl
theorem q930 : (Jvm.Cond.lays "java/util/TreeMap$ValueIterator" "java/util/TreeMap$PrivateEntryIterator" "next" "Ljava/util/TreeMap$Entry;") ∈ lw_all := lw_g (lw_at lw_m4 134 rfl) rfl
theorem q931 : (Jvm.Cond.lays "java/util/TreeMap$ValueIterator" "java/util/TreeMap$PrivateEntryIterator" "lastReturned" "Ljava/util/TreeMap$Entry;") ∈ lw_all := lw_g (lw_at lw_m4 135 rfl) rfl
theorem q932 : (Jvm.Cond.lays "java/util/TreeMap$ValueIterator" "java/util/TreeMap$PrivateEntryIterator" "expectedModCount" "I") ∈ lw_all := lw_g (lw_at lw_m4 136 rfl) rfl
theorem q933 : (Jvm.Cond.laysFinal "java/util/TreeMap$ValueIterator" "java/util/TreeMap$PrivateEntryIterator" "this$0" "Ljava/util/TreeMap;") ∈ lw_all := lw_g (lw_at lw_m4 137 rfl) rfl
theorem q934 : (Jvm.Cond.superclass "java/util/TreeMap$ValueIterator" "java/util/TreeMap$PrivateEntryIterator") ∈ lw_all := lw_g (lw_at lw_m4 138 rfl) rfl
theorem q960 : (Jvm.Cond.castable "java/util/TreeMap$ValueIterator" "java/util/Iterator") ∈ lw_tbl := lw_at lw_m4 164 rfl
theorem q961 : (Jvm.Cond.selects "java/util/TreeMap$ValueIterator" ({ cls := "java/util/Iterator", name := "hasNext", desc := "()Z" } : Jvm.MethodName) ({ cls := "java/util/TreeMap$PrivateEntryIterator", name := "hasNext", desc := "()Z" } : Jvm.MethodName)) ∈ lw_all := lw_g (lw_at lw_m4 165 rfl) rfl
theorem q962 : (Jvm.Cond.unhidden "java/util/TreeMap$ValueIterator" "hasNext" "()Z") ∈ lw_tbl := lw_at lw_m4 166 rfl
theorem q1042 : (Jvm.Cond.selects "java/util/TreeMap$ValueIterator" ({ cls := "java/util/Iterator", name := "next", desc := "()Ljava/lang/Object;" } : Jvm.MethodName) ({ cls := "java/util/TreeMap$ValueIterator", name := "next", desc := "()Ljava/lang/Object;" } : Jvm.MethodName)) ∈ lw_all := lw_g (lw_at lw_m5 6 rfl) rfl
theorem q1043 : (Jvm.Cond.unhidden "java/util/TreeMap$ValueIterator" "next" "()Ljava/lang/Object;") ∈ lw_tbl := lw_at lw_m5 7 rfl
theorem q1044 : (Jvm.Cond.instanceMethod ({ cls := "java/util/TreeMap$ValueIterator", name := "next", desc := "()Ljava/lang/Object;" } : Jvm.MethodName)) ∈ lw_all := lw_g (lw_at lw_m5 8 rfl) rfl
theorem q1045 : (Jvm.Cond.publicMethod ({ cls := "java/util/TreeMap$ValueIterator", name := "next", desc := "()Ljava/lang/Object;" } : Jvm.MethodName)) ∈ lw_tbl := lw_at lw_m5 9 rfl
theorem q1046 : (Jvm.Cond.code ({ cls := "java/util/TreeMap$ValueIterator", name := "next", desc := "()Ljava/lang/Object;" } : Jvm.MethodName) prog_95_method_2_code (1 : Nat) (Option.some (Jvm.ClassFile.FieldType.object "java/lang/Object"))) ∈ lw_all := lw_g (lw_at lw_m5 10 rfl) rfl
theorem q1047 : (Jvm.Cond.methodLink "java/util/TreeMap$ValueIterator" (7 : Nat) ({ cls := "java/util/TreeMap$ValueIterator", name := "nextEntry", desc := "()Ljava/util/TreeMap$Entry;" } : Jvm.MethodName)) ∈ lw_all := lw_g (lw_at lw_m5 11 rfl) rfl
theorem q1048 : (Jvm.Cond.sameMethod "java/util/TreeMap$ValueIterator" "java/util/TreeMap$PrivateEntryIterator" "nextEntry" "()Ljava/util/TreeMap$Entry;") ∈ lw_all := lw_g (lw_at lw_m5 12 rfl) rfl
theorem q1049 : (Jvm.Cond.selects "java/util/TreeMap$ValueIterator" ({ cls := "java/util/TreeMap$ValueIterator", name := "nextEntry", desc := "()Ljava/util/TreeMap$Entry;" } : Jvm.MethodName) ({ cls := "java/util/TreeMap$PrivateEntryIterator", name := "nextEntry", desc := "()Ljava/util/TreeMap$Entry;" } : Jvm.MethodName)) ∈ lw_all := lw_g (lw_at lw_m5 13 rfl) rfl
theorem q2110 : (Jvm.Cond.fieldLink "java/util/TreeMap$ValueIterator" (13 : Nat) "java/util/TreeMap$Entry" "value" "Ljava/lang/Object;") ∈ lw_all := lw_g (lw_at lw_m9 114 rfl) rfl
theorem q2316 : (Jvm.Cond.selects "java/util/TreeMap$ValueIterator" ({ cls := "java/util/Iterator", name := "remove", desc := "()V" } : Jvm.MethodName) ({ cls := "java/util/TreeMap$PrivateEntryIterator", name := "remove", desc := "()V" } : Jvm.MethodName)) ∈ lw_all := lw_g (lw_at lw_m10 80 rfl) rfl
theorem q2317 : (Jvm.Cond.unhidden "java/util/TreeMap$ValueIterator" "remove" "()V") ∈ lw_tbl := lw_at lw_m10 81 rfl
theorem q3698 : (Jvm.Cond.castable "java/util/TreeMap$ValueIterator" "java/lang/Object") ∈ lw_tbl := lw_at lw_m16 22 rfl
theorem in_J34 : ∀ w ∈ wsJ340, w ∈ lw_all := lw_in wsJ340 [930, 931, 932, 933] (by decide +kernel) (by decide +kernel)
/-! jdk/internal/misc/Unsafe -/
def RJ35 : String := "jdk/internal/misc/Unsafe"
abbrev cJ35_getLongUnaligned : ByteArray := prog_98_method_334_code
def yJ35_getLongUnaligned : MethodName := ⟨RJ35, "getLongUnaligned", "(Ljava/lang/Object;J)J"⟩
abbrev cJ35_makeLong : ByteArray := prog_98_method_353_code
def yJ35_makeLong : MethodName := ⟨RJ35, "makeLong", "(II)J"⟩
abbrev cJ35_toUnsignedLong : ByteArray := prog_98_method_370_code
def yJ35_toUnsignedLong : MethodName := ⟨RJ35, "toUnsignedLong", "(I)J"⟩
abbrev cJ35_pickPos : ByteArray := prog_98_method_350_code
def yJ35_pickPos : MethodName := ⟨RJ35, "pickPos", "(II)I"⟩
abbrev cJ35_makeLong_2 : ByteArray := prog_98_method_352_code
def yJ35_makeLong_2 : MethodName := ⟨RJ35, "makeLong", "(SSSS)J"⟩
abbrev cJ35_toUnsignedLong_2 : ByteArray := prog_98_method_369_code
def yJ35_toUnsignedLong_2 : MethodName := ⟨RJ35, "toUnsignedLong", "(S)J"⟩
abbrev cJ35_makeLong_3 : ByteArray := prog_98_method_351_code
def yJ35_makeLong_3 : MethodName := ⟨RJ35, "makeLong", "(BBBBBBBB)J"⟩
abbrev cJ35_toUnsignedLong_3 : ByteArray := prog_98_method_368_code
def yJ35_toUnsignedLong_3 : MethodName := ⟨RJ35, "toUnsignedLong", "(B)J"⟩
abbrev cJ35_getIntUnaligned : ByteArray := prog_98_method_336_code
def yJ35_getIntUnaligned : MethodName := ⟨RJ35, "getIntUnaligned", "(Ljava/lang/Object;J)I"⟩
abbrev cJ35_makeInt : ByteArray := prog_98_method_354_code
def yJ35_makeInt : MethodName := ⟨RJ35, "makeInt", "(SS)I"⟩
abbrev cJ35_toUnsignedInt : ByteArray := prog_98_method_367_code
def yJ35_toUnsignedInt : MethodName := ⟨RJ35, "toUnsignedInt", "(S)I"⟩
abbrev cJ35_makeInt_2 : ByteArray := prog_98_method_355_code
def yJ35_makeInt_2 : MethodName := ⟨RJ35, "makeInt", "(BBBB)I"⟩
abbrev cJ35_toUnsignedInt_2 : ByteArray := prog_98_method_366_code
def yJ35_toUnsignedInt_2 : MethodName := ⟨RJ35, "toUnsignedInt", "(B)I"⟩
theorem q125 : (Jvm.Cond.initialized "jdk/internal/misc/Unsafe") ∈ lw_all := lw_g (lw_at lw_m1 49 rfl) rfl
theorem q782 : (Jvm.Cond.selects "jdk/internal/misc/Unsafe" ({ cls := "java/lang/Object", name := "getClass", desc := "()Ljava/lang/Class;" } : Jvm.MethodName) ({ cls := "java/lang/Object", name := "getClass", desc := "()Ljava/lang/Class;" } : Jvm.MethodName)) ∈ lw_all := lw_g (lw_at lw_m3 226 rfl) rfl
theorem q1360 : (Jvm.Cond.selects "jdk/internal/misc/Unsafe" ({ cls := "java/lang/Object", name := "hashCode", desc := "()I" } : Jvm.MethodName) ({ cls := "java/lang/Object", name := "hashCode", desc := "()I" } : Jvm.MethodName)) ∈ lw_all := lw_g (lw_at lw_m6 84 rfl) rfl
theorem q1406 : (Jvm.Cond.selects "jdk/internal/misc/Unsafe" ({ cls := "java/lang/Object", name := "equals", desc := "(Ljava/lang/Object;)Z" } : Jvm.MethodName) ({ cls := "java/lang/Object", name := "equals", desc := "(Ljava/lang/Object;)Z" } : Jvm.MethodName)) ∈ lw_all := lw_g (lw_at lw_m6 130 rfl) rfl
theorem q1469 : (Jvm.Cond.laysStatic "jdk/internal/misc/Unsafe" "ARRAY_BYTE_BASE_OFFSET" "I") ∈ lw_tbl := lw_at lw_m6 193 rfl
theorem q1480 : (Jvm.Cond.instanceMethod ({ cls := "jdk/internal/misc/Unsafe", name := "getLongUnaligned", desc := "(Ljava/lang/Object;J)J" } : Jvm.MethodName)) ∈ lw_all := lw_g (lw_at lw_m6 204 rfl) rfl
theorem q1481 : (Jvm.Cond.selects "jdk/internal/misc/Unsafe" ({ cls := "jdk/internal/misc/Unsafe", name := "getLongUnaligned", desc := "(Ljava/lang/Object;J)J" } : Jvm.MethodName) ({ cls := "jdk/internal/misc/Unsafe", name := "getLongUnaligned", desc := "(Ljava/lang/Object;J)J" } : Jvm.MethodName)) ∈ lw_all := lw_g (lw_at lw_m6 205 rfl) rfl
theorem q1482 : (Jvm.Cond.code ({ cls := "jdk/internal/misc/Unsafe", name := "getLongUnaligned", desc := "(Ljava/lang/Object;J)J" } : Jvm.MethodName) prog_98_method_334_code (4 : Nat) (Option.some Jvm.ClassFile.FieldType.long)) ∈ lw_all := lw_g (lw_at lw_m6 206 rfl) rfl
theorem q1483 : (Jvm.Cond.constantLong "jdk/internal/misc/Unsafe" (696 : Nat) (7 : Int64)) ∈ lw_all := lw_g (lw_at lw_m6 207 rfl) rfl
theorem q1484 : (Jvm.Cond.methodLink "jdk/internal/misc/Unsafe" (27 : Nat) ({ cls := "jdk/internal/misc/Unsafe", name := "getLong", desc := "(Ljava/lang/Object;J)J" } : Jvm.MethodName)) ∈ lw_all := lw_g (lw_at lw_m6 208 rfl) rfl
theorem q1485 : (Jvm.Cond.instanceMethod ({ cls := "jdk/internal/misc/Unsafe", name := "getLong", desc := "(Ljava/lang/Object;J)J" } : Jvm.MethodName)) ∈ lw_all := lw_g (lw_at lw_m6 209 rfl) rfl
theorem q1486 : (Jvm.Cond.selects "jdk/internal/misc/Unsafe" ({ cls := "jdk/internal/misc/Unsafe", name := "getLong", desc := "(Ljava/lang/Object;J)J" } : Jvm.MethodName) ({ cls := "jdk/internal/misc/Unsafe", name := "getLong", desc := "(Ljava/lang/Object;J)J" } : Jvm.MethodName)) ∈ lw_all := lw_g (lw_at lw_m6 210 rfl) rfl
theorem q1487 : (Jvm.Cond.native ({ cls := "jdk/internal/misc/Unsafe", name := "getLong", desc := "(Ljava/lang/Object;J)J" } : Jvm.MethodName)) ∈ lw_all := lw_g (lw_at lw_m6 211 rfl) rfl
theorem q1488 : (Jvm.Cond.constantLong "jdk/internal/misc/Unsafe" (349 : Nat) (3 : Int64)) ∈ lw_all := lw_g (lw_at lw_m6 212 rfl) rfl
theorem q1489 : (Jvm.Cond.methodLink "jdk/internal/misc/Unsafe" (17 : Nat) ({ cls := "jdk/internal/misc/Unsafe", name := "getInt", desc := "(Ljava/lang/Object;J)I" } : Jvm.MethodName)) ∈ lw_all := lw_g (lw_at lw_m6 213 rfl) rfl
theorem q1490 : (Jvm.Cond.instanceMethod ({ cls := "jdk/internal/misc/Unsafe", name := "getInt", desc := "(Ljava/lang/Object;J)I" } : Jvm.MethodName)) ∈ lw_all := lw_g (lw_at lw_m6 214 rfl) rfl
theorem q1491 : (Jvm.Cond.selects "jdk/internal/misc/Unsafe" ({ cls := "jdk/internal/misc/Unsafe", name := "getInt", desc := "(Ljava/lang/Object;J)I" } : Jvm.MethodName) ({ cls := "jdk/internal/misc/Unsafe", name := "getInt", desc := "(Ljava/lang/Object;J)I" } : Jvm.MethodName)) ∈ lw_all := lw_g (lw_at lw_m6 215 rfl) rfl
theorem q1492 : (Jvm.Cond.native ({ cls := "jdk/internal/misc/Unsafe", name := "getInt", desc := "(Ljava/lang/Object;J)I" } : Jvm.MethodName)) ∈ lw_all := lw_g (lw_at lw_m6 216 rfl) rfl
theorem q1493 : (Jvm.Cond.constantLong "jdk/internal/misc/Unsafe" (205 : Nat) (4 : Int64)) ∈ lw_all := lw_g (lw_at lw_m6 217 rfl) rfl
theorem q1494 : (Jvm.Cond.methodLink "jdk/internal/misc/Unsafe" (698 : Nat) ({ cls := "jdk/internal/misc/Unsafe", name := "makeLong", desc := "(II)J" } : Jvm.MethodName)) ∈ lw_all := lw_g (lw_at lw_m6 218 rfl) rfl
theorem q1495 : (Jvm.Cond.static ({ cls := "jdk/internal/misc/Unsafe", name := "makeLong", desc := "(II)J" } : Jvm.MethodName)) ∈ lw_all := lw_g (lw_at lw_m6 219 rfl) rfl
theorem q1496 : (Jvm.Cond.code ({ cls := "jdk/internal/misc/Unsafe", name := "makeLong", desc := "(II)J" } : Jvm.MethodName) prog_98_method_353_code (2 : Nat) (Option.some Jvm.ClassFile.FieldType.long)) ∈ lw_all := lw_g (lw_at lw_m6 220 rfl) rfl
theorem q1497 : (Jvm.Cond.methodLink "jdk/internal/misc/Unsafe" (791 : Nat) ({ cls := "jdk/internal/misc/Unsafe", name := "toUnsignedLong", desc := "(I)J" } : Jvm.MethodName)) ∈ lw_all := lw_g (lw_at lw_m6 221 rfl) rfl
theorem q1498 : (Jvm.Cond.static ({ cls := "jdk/internal/misc/Unsafe", name := "toUnsignedLong", desc := "(I)J" } : Jvm.MethodName)) ∈ lw_all := lw_g (lw_at lw_m6 222 rfl) rfl
theorem q1499 : (Jvm.Cond.code ({ cls := "jdk/internal/misc/Unsafe", name := "toUnsignedLong", desc := "(I)J" } : Jvm.MethodName) prog_98_method_370_code (1 : Nat) (Option.some Jvm.ClassFile.FieldType.long)) ∈ lw_all := lw_g (lw_at lw_m6 223 rfl) rfl
theorem q1500 : (Jvm.Cond.constantLong "jdk/internal/misc/Unsafe" (812 : Nat) (4294967295 : Int64)) ∈ lw_all := lw_g (lw_at lw_m6 224 rfl) rfl
theorem q1501 : (Jvm.Cond.methodLink "jdk/internal/misc/Unsafe" (784 : Nat) ({ cls := "jdk/internal/misc/Unsafe", name := "pickPos", desc := "(II)I" } : Jvm.MethodName)) ∈ lw_all := lw_g (lw_at lw_m6 225 rfl) rfl
theorem q1502 : (Jvm.Cond.static ({ cls := "jdk/internal/misc/Unsafe", name := "pickPos", desc := "(II)I" } : Jvm.MethodName)) ∈ lw_all := lw_g (lw_at lw_m6 226 rfl) rfl
theorem q1503 : (Jvm.Cond.code ({ cls := "jdk/internal/misc/Unsafe", name := "pickPos", desc := "(II)I" } : Jvm.MethodName) prog_98_method_350_code (2 : Nat) (Option.some Jvm.ClassFile.FieldType.int)) ∈ lw_all := lw_g (lw_at lw_m6 227 rfl) rfl
theorem q1504 : (Jvm.Cond.fieldLink "jdk/internal/misc/Unsafe" (351 : Nat) "jdk/internal/misc/UnsafeConstants" "BIG_ENDIAN" "Z") ∈ lw_all := lw_g (lw_at lw_m6 228 rfl) rfl
theorem q1506 : (Jvm.Cond.methodLink "jdk/internal/misc/Unsafe" (47 : Nat) ({ cls := "jdk/internal/misc/Unsafe", name := "getShort", desc := "(Ljava/lang/Object;J)S" } : Jvm.MethodName)) ∈ lw_all := lw_g (lw_at lw_m6 230 rfl) rfl
theorem q1507 : (Jvm.Cond.instanceMethod ({ cls := "jdk/internal/misc/Unsafe", name := "getShort", desc := "(Ljava/lang/Object;J)S" } : Jvm.MethodName)) ∈ lw_all := lw_g (lw_at lw_m6 231 rfl) rfl
theorem q1508 : (Jvm.Cond.selects "jdk/internal/misc/Unsafe" ({ cls := "jdk/internal/misc/Unsafe", name := "getShort", desc := "(Ljava/lang/Object;J)S" } : Jvm.MethodName) ({ cls := "jdk/internal/misc/Unsafe", name := "getShort", desc := "(Ljava/lang/Object;J)S" } : Jvm.MethodName)) ∈ lw_all := lw_g (lw_at lw_m6 232 rfl) rfl
theorem q1509 : (Jvm.Cond.native ({ cls := "jdk/internal/misc/Unsafe", name := "getShort", desc := "(Ljava/lang/Object;J)S" } : Jvm.MethodName)) ∈ lw_all := lw_g (lw_at lw_m6 233 rfl) rfl
theorem q1510 : (Jvm.Cond.constantLong "jdk/internal/misc/Unsafe" (203 : Nat) (2 : Int64)) ∈ lw_all := lw_g (lw_at lw_m6 234 rfl) rfl
theorem q1511 : (Jvm.Cond.constantLong "jdk/internal/misc/Unsafe" (702 : Nat) (6 : Int64)) ∈ lw_all := lw_g (lw_at lw_m6 235 rfl) rfl
theorem q1512 : (Jvm.Cond.methodLink "jdk/internal/misc/Unsafe" (704 : Nat) ({ cls := "jdk/internal/misc/Unsafe", name := "makeLong", desc := "(SSSS)J" } : Jvm.MethodName)) ∈ lw_all := lw_g (lw_at lw_m6 236 rfl) rfl
theorem q1513 : (Jvm.Cond.static ({ cls := "jdk/internal/misc/Unsafe", name := "makeLong", desc := "(SSSS)J" } : Jvm.MethodName)) ∈ lw_all := lw_g (lw_at lw_m6 237 rfl) rfl
theorem q1514 : (Jvm.Cond.code ({ cls := "jdk/internal/misc/Unsafe", name := "makeLong", desc := "(SSSS)J" } : Jvm.MethodName) prog_98_method_352_code (4 : Nat) (Option.some Jvm.ClassFile.FieldType.long)) ∈ lw_all := lw_g (lw_at lw_m6 238 rfl) rfl
theorem q1515 : (Jvm.Cond.methodLink "jdk/internal/misc/Unsafe" (788 : Nat) ({ cls := "jdk/internal/misc/Unsafe", name := "toUnsignedLong", desc := "(S)J" } : Jvm.MethodName)) ∈ lw_all := lw_g (lw_at lw_m6 239 rfl) rfl
theorem q1516 : (Jvm.Cond.static ({ cls := "jdk/internal/misc/Unsafe", name := "toUnsignedLong", desc := "(S)J" } : Jvm.MethodName)) ∈ lw_all := lw_g (lw_at lw_m7 0 rfl) rfl
theorem q1517 : (Jvm.Cond.code ({ cls := "jdk/internal/misc/Unsafe", name := "toUnsignedLong", desc := "(S)J" } : Jvm.MethodName) prog_98_method_369_code (1 : Nat) (Option.some Jvm.ClassFile.FieldType.long)) ∈ lw_all := lw_g (lw_at lw_m7 1 rfl) rfl
theorem q1518 : (Jvm.Cond.constantLong "jdk/internal/misc/Unsafe" (810 : Nat) (65535 : Int64)) ∈ lw_all := lw_g (lw_at lw_m7 2 rfl) rfl
theorem q1519 : (Jvm.Cond.methodLink "jdk/internal/misc/Unsafe" (39 : Nat) ({ cls := "jdk/internal/misc/Unsafe", name := "getByte", desc := "(Ljava/lang/Object;J)B" } : Jvm.MethodName)) ∈ lw_all := lw_g (lw_at lw_m7 3 rfl) rfl
theorem q1520 : (Jvm.Cond.instanceMethod ({ cls := "jdk/internal/misc/Unsafe", name := "getByte", desc := "(Ljava/lang/Object;J)B" } : Jvm.MethodName)) ∈ lw_all := lw_g (lw_at lw_m7 4 rfl) rfl
theorem q1521 : (Jvm.Cond.selects "jdk/internal/misc/Unsafe" ({ cls := "jdk/internal/misc/Unsafe", name := "getByte", desc := "(Ljava/lang/Object;J)B" } : Jvm.MethodName) ({ cls := "jdk/internal/misc/Unsafe", name := "getByte", desc := "(Ljava/lang/Object;J)B" } : Jvm.MethodName)) ∈ lw_all := lw_g (lw_at lw_m7 5 rfl) rfl
theorem q1522 : (Jvm.Cond.native ({ cls := "jdk/internal/misc/Unsafe", name := "getByte", desc := "(Ljava/lang/Object;J)B" } : Jvm.MethodName)) ∈ lw_all := lw_g (lw_at lw_m7 6 rfl) rfl
theorem q1523 : (Jvm.Cond.constantLong "jdk/internal/misc/Unsafe" (707 : Nat) (5 : Int64)) ∈ lw_all := lw_g (lw_at lw_m7 7 rfl) rfl
theorem q1524 : (Jvm.Cond.methodLink "jdk/internal/misc/Unsafe" (709 : Nat) ({ cls := "jdk/internal/misc/Unsafe", name := "makeLong", desc := "(BBBBBBBB)J" } : Jvm.MethodName)) ∈ lw_all := lw_g (lw_at lw_m7 8 rfl) rfl
theorem q1525 : (Jvm.Cond.static ({ cls := "jdk/internal/misc/Unsafe", name := "makeLong", desc := "(BBBBBBBB)J" } : Jvm.MethodName)) ∈ lw_all := lw_g (lw_at lw_m7 9 rfl) rfl
theorem q1526 : (Jvm.Cond.code ({ cls := "jdk/internal/misc/Unsafe", name := "makeLong", desc := "(BBBBBBBB)J" } : Jvm.MethodName) prog_98_method_351_code (8 : Nat) (Option.some Jvm.ClassFile.FieldType.long)) ∈ lw_all := lw_g (lw_at lw_m7 10 rfl) rfl
theorem q1527 : (Jvm.Cond.methodLink "jdk/internal/misc/Unsafe" (781 : Nat) ({ cls := "jdk/internal/misc/Unsafe", name := "toUnsignedLong", desc := "(B)J" } : Jvm.MethodName)) ∈ lw_all := lw_g (lw_at lw_m7 11 rfl) rfl
theorem q1528 : (Jvm.Cond.static ({ cls := "jdk/internal/misc/Unsafe", name := "toUnsignedLong", desc := "(B)J" } : Jvm.MethodName)) ∈ lw_all := lw_g (lw_at lw_m7 12 rfl) rfl
theorem q1529 : (Jvm.Cond.code ({ cls := "jdk/internal/misc/Unsafe", name := "toUnsignedLong", desc := "(B)J" } : Jvm.MethodName) prog_98_method_368_code (1 : Nat) (Option.some Jvm.ClassFile.FieldType.long)) ∈ lw_all := lw_g (lw_at lw_m7 13 rfl) rfl
theorem q1530 : (Jvm.Cond.constantLong "jdk/internal/misc/Unsafe" (808 : Nat) (255 : Int64)) ∈ lw_all := lw_g (lw_at lw_m7 14 rfl) rfl
theorem q1545 : (Jvm.Cond.instanceMethod ({ cls := "jdk/internal/misc/Unsafe", name := "getIntUnaligned", desc := "(Ljava/lang/Object;J)I" } : Jvm.MethodName)) ∈ lw_all := lw_g (lw_at lw_m7 29 rfl) rfl
theorem q1546 : (Jvm.Cond.selects "jdk/internal/misc/Unsafe" ({ cls := "jdk/internal/misc/Unsafe", name := "getIntUnaligned", desc := "(Ljava/lang/Object;J)I" } : Jvm.MethodName) ({ cls := "jdk/internal/misc/Unsafe", name := "getIntUnaligned", desc := "(Ljava/lang/Object;J)I" } : Jvm.MethodName)) ∈ lw_all := lw_g (lw_at lw_m7 30 rfl) rfl
theorem q1547 : (Jvm.Cond.code ({ cls := "jdk/internal/misc/Unsafe", name := "getIntUnaligned", desc := "(Ljava/lang/Object;J)I" } : Jvm.MethodName) prog_98_method_336_code (4 : Nat) (Option.some Jvm.ClassFile.FieldType.int)) ∈ lw_all := lw_g (lw_at lw_m7 31 rfl) rfl
theorem q1548 : (Jvm.Cond.methodLink "jdk/internal/misc/Unsafe" (719 : Nat) ({ cls := "jdk/internal/misc/Unsafe", name := "makeInt", desc := "(SS)I" } : Jvm.MethodName)) ∈ lw_all := lw_g (lw_at lw_m7 32 rfl) rfl
theorem q1549 : (Jvm.Cond.static ({ cls := "jdk/internal/misc/Unsafe", name := "makeInt", desc := "(SS)I" } : Jvm.MethodName)) ∈ lw_all := lw_g (lw_at lw_m7 33 rfl) rfl
theorem q1550 : (Jvm.Cond.code ({ cls := "jdk/internal/misc/Unsafe", name := "makeInt", desc := "(SS)I" } : Jvm.MethodName) prog_98_method_354_code (2 : Nat) (Option.some Jvm.ClassFile.FieldType.int)) ∈ lw_all := lw_g (lw_at lw_m7 34 rfl) rfl
theorem q1551 : (Jvm.Cond.methodLink "jdk/internal/misc/Unsafe" (792 : Nat) ({ cls := "jdk/internal/misc/Unsafe", name := "toUnsignedInt", desc := "(S)I" } : Jvm.MethodName)) ∈ lw_all := lw_g (lw_at lw_m7 35 rfl) rfl
theorem q1552 : (Jvm.Cond.static ({ cls := "jdk/internal/misc/Unsafe", name := "toUnsignedInt", desc := "(S)I" } : Jvm.MethodName)) ∈ lw_all := lw_g (lw_at lw_m7 36 rfl) rfl
theorem q1553 : (Jvm.Cond.code ({ cls := "jdk/internal/misc/Unsafe", name := "toUnsignedInt", desc := "(S)I" } : Jvm.MethodName) prog_98_method_367_code (1 : Nat) (Option.some Jvm.ClassFile.FieldType.int)) ∈ lw_all := lw_g (lw_at lw_m7 37 rfl) rfl
theorem q1554 : (Jvm.Cond.constant "jdk/internal/misc/Unsafe" (374 : Nat) (65535 : Int32)) ∈ lw_all := lw_g (lw_at lw_m7 38 rfl) rfl
theorem q1555 : (Jvm.Cond.methodLink "jdk/internal/misc/Unsafe" (723 : Nat) ({ cls := "jdk/internal/misc/Unsafe", name := "makeInt", desc := "(BBBB)I" } : Jvm.MethodName)) ∈ lw_all := lw_g (lw_at lw_m7 39 rfl) rfl
theorem q1556 : (Jvm.Cond.static ({ cls := "jdk/internal/misc/Unsafe", name := "makeInt", desc := "(BBBB)I" } : Jvm.MethodName)) ∈ lw_all := lw_g (lw_at lw_m7 40 rfl) rfl
theorem q1557 : (Jvm.Cond.code ({ cls := "jdk/internal/misc/Unsafe", name := "makeInt", desc := "(BBBB)I" } : Jvm.MethodName) prog_98_method_355_code (4 : Nat) (Option.some Jvm.ClassFile.FieldType.int)) ∈ lw_all := lw_g (lw_at lw_m7 41 rfl) rfl
theorem q1558 : (Jvm.Cond.methodLink "jdk/internal/misc/Unsafe" (796 : Nat) ({ cls := "jdk/internal/misc/Unsafe", name := "toUnsignedInt", desc := "(B)I" } : Jvm.MethodName)) ∈ lw_all := lw_g (lw_at lw_m7 42 rfl) rfl
theorem q1559 : (Jvm.Cond.static ({ cls := "jdk/internal/misc/Unsafe", name := "toUnsignedInt", desc := "(B)I" } : Jvm.MethodName)) ∈ lw_all := lw_g (lw_at lw_m7 43 rfl) rfl
theorem q1560 : (Jvm.Cond.code ({ cls := "jdk/internal/misc/Unsafe", name := "toUnsignedInt", desc := "(B)I" } : Jvm.MethodName) prog_98_method_366_code (1 : Nat) (Option.some Jvm.ClassFile.FieldType.int)) ∈ lw_all := lw_g (lw_at lw_m7 44 rfl) rfl
theorem q3704 : (Jvm.Cond.castable "jdk/internal/misc/Unsafe" "java/lang/Object") ∈ lw_tbl := lw_at lw_m16 28 rfl
/-! java/lang/Long -/
def RJ36 : String := "java/lang/Long"
abbrev cJ36_numberOfTrailingZeros : ByteArray := prog_40_method_49_code
def yJ36_numberOfTrailingZeros : MethodName := ⟨RJ36, "numberOfTrailingZeros", "(J)I"⟩
def dkwJ36_numberOfTrailingZeros_1 : List UInt8 := [184, 1, 55, 172]
abbrev dktJ36_numberOfTrailingZeros_1 : List UInt8 := dkwJ36_numberOfTrailingZeros_1 ++ []
def dkwJ36_numberOfTrailingZeros_0 : List UInt8 := [30, 136, 61, 28, 154, 0, 17, 16, 32, 30, 16, 32, 125, 136, 184, 1, 55, 96, 167, 0, 7, 28]
abbrev dktJ36_numberOfTrailingZeros_0 : List UInt8 := dkwJ36_numberOfTrailingZeros_0 ++ dktJ36_numberOfTrailingZeros_1
theorem dksJ36_numberOfTrailingZeros_0 : cJ36_numberOfTrailingZeros.data.toList.drop 0 = dktJ36_numberOfTrailingZeros_0 := by decide +kernel
theorem dksJ36_numberOfTrailingZeros_1 : cJ36_numberOfTrailingZeros.data.toList.drop 22 = dktJ36_numberOfTrailingZeros_1 := dk_seg dksJ36_numberOfTrailingZeros_0 22 rfl rfl
theorem dJ36_numberOfTrailingZeros_0 : decode cJ36_numberOfTrailingZeros 0 = .ok (.lload_n 0, 1) := dk_30 (dk_at dksJ36_numberOfTrailingZeros_0 0 rfl rfl)
theorem dJ36_numberOfTrailingZeros_1 : decode cJ36_numberOfTrailingZeros 1 = .ok (.l2i, 1) := dk_136 (dk_at dksJ36_numberOfTrailingZeros_0 1 rfl rfl)
theorem dJ36_numberOfTrailingZeros_2 : decode cJ36_numberOfTrailingZeros 2 = .ok (.istore_n 2, 1) := dk_61 (dk_at dksJ36_numberOfTrailingZeros_0 2 rfl rfl)
theorem dJ36_numberOfTrailingZeros_3 : decode cJ36_numberOfTrailingZeros 3 = .ok (.iload_n 2, 1) := dk_28 (dk_at dksJ36_numberOfTrailingZeros_0 3 rfl rfl)
theorem dJ36_numberOfTrailingZeros_4 : decode cJ36_numberOfTrailingZeros 4 = .ok (.ifCond .ne 17, 3) := dk_154 0 17 (dk_at dksJ36_numberOfTrailingZeros_0 4 rfl rfl)
theorem dJ36_numberOfTrailingZeros_7 : decode cJ36_numberOfTrailingZeros 7 = .ok (.bipush 32, 2) := dk_16 32 (dk_at dksJ36_numberOfTrailingZeros_0 7 rfl rfl)
theorem dJ36_numberOfTrailingZeros_9 : decode cJ36_numberOfTrailingZeros 9 = .ok (.lload_n 0, 1) := dk_30 (dk_at dksJ36_numberOfTrailingZeros_0 9 rfl rfl)
theorem dJ36_numberOfTrailingZeros_10 : decode cJ36_numberOfTrailingZeros 10 = .ok (.bipush 32, 2) := dk_16 32 (dk_at dksJ36_numberOfTrailingZeros_0 10 rfl rfl)
theorem dJ36_numberOfTrailingZeros_12 : decode cJ36_numberOfTrailingZeros 12 = .ok (.lushr, 1) := dk_125 (dk_at dksJ36_numberOfTrailingZeros_0 12 rfl rfl)
theorem dJ36_numberOfTrailingZeros_13 : decode cJ36_numberOfTrailingZeros 13 = .ok (.l2i, 1) := dk_136 (dk_at dksJ36_numberOfTrailingZeros_0 13 rfl rfl)
theorem dJ36_numberOfTrailingZeros_14 : decode cJ36_numberOfTrailingZeros 14 = .ok (.invokestatic 311, 3) := dk_184 1 55 (dk_at dksJ36_numberOfTrailingZeros_0 14 rfl rfl)
theorem dJ36_numberOfTrailingZeros_17 : decode cJ36_numberOfTrailingZeros 17 = .ok (.iadd, 1) := dk_96 (dk_at dksJ36_numberOfTrailingZeros_0 17 rfl rfl)
theorem dJ36_numberOfTrailingZeros_18 : decode cJ36_numberOfTrailingZeros 18 = .ok (.goto 7, 3) := dk_167 0 7 (dk_at dksJ36_numberOfTrailingZeros_0 18 rfl rfl)
theorem dJ36_numberOfTrailingZeros_21 : decode cJ36_numberOfTrailingZeros 21 = .ok (.iload_n 2, 1) := dk_28 (dk_at dksJ36_numberOfTrailingZeros_0 21 rfl rfl)
theorem dJ36_numberOfTrailingZeros_22 : decode cJ36_numberOfTrailingZeros 22 = .ok (.invokestatic 311, 3) := dk_184 1 55 (dk_at dksJ36_numberOfTrailingZeros_1 0 rfl rfl)
theorem dJ36_numberOfTrailingZeros_25 : decode cJ36_numberOfTrailingZeros 25 = .ok (.ireturn, 1) := dk_172 (dk_at dksJ36_numberOfTrailingZeros_1 3 rfl rfl)
abbrev cJ36_bitCount : ByteArray := prog_40_method_50_code
def yJ36_bitCount : MethodName := ⟨RJ36, "bitCount", "(J)I"⟩
def dkwJ36_bitCount_2 : List UInt8 := [30, 30, 16, 32, 125, 97, 63, 30, 136, 16, 127, 126, 172]
abbrev dktJ36_bitCount_2 : List UInt8 := dkwJ36_bitCount_2 ++ []
def dkwJ36_bitCount_1 : List UInt8 := [30, 30, 7, 125, 97, 20, 1, 62, 127, 63, 30, 30, 16, 8, 125, 97, 63, 30, 30, 16, 16, 125, 97, 63]
abbrev dktJ36_bitCount_1 : List UInt8 := dkwJ36_bitCount_1 ++ dktJ36_bitCount_2
def dkwJ36_bitCount_0 : List UInt8 := [30, 30, 4, 125, 20, 1, 58, 127, 101, 63, 30, 20, 1, 60, 127, 30, 5, 125, 20, 1, 60, 127, 97, 63]
abbrev dktJ36_bitCount_0 : List UInt8 := dkwJ36_bitCount_0 ++ dktJ36_bitCount_1
theorem dksJ36_bitCount_0 : cJ36_bitCount.data.toList.drop 0 = dktJ36_bitCount_0 := by decide +kernel
theorem dksJ36_bitCount_1 : cJ36_bitCount.data.toList.drop 24 = dktJ36_bitCount_1 := dk_seg dksJ36_bitCount_0 24 rfl rfl
theorem dksJ36_bitCount_2 : cJ36_bitCount.data.toList.drop 48 = dktJ36_bitCount_2 := dk_seg dksJ36_bitCount_1 24 rfl rfl
theorem dJ36_bitCount_0 : decode cJ36_bitCount 0 = .ok (.lload_n 0, 1) := dk_30 (dk_at dksJ36_bitCount_0 0 rfl rfl)
theorem dJ36_bitCount_1 : decode cJ36_bitCount 1 = .ok (.lload_n 0, 1) := dk_30 (dk_at dksJ36_bitCount_0 1 rfl rfl)
theorem dJ36_bitCount_2 : decode cJ36_bitCount 2 = .ok (.iconst 1, 1) := dk_4 (dk_at dksJ36_bitCount_0 2 rfl rfl)
theorem dJ36_bitCount_3 : decode cJ36_bitCount 3 = .ok (.lushr, 1) := dk_125 (dk_at dksJ36_bitCount_0 3 rfl rfl)
theorem dJ36_bitCount_4 : decode cJ36_bitCount 4 = .ok (.ldc2_w 314, 3) := dk_20 1 58 (dk_at dksJ36_bitCount_0 4 rfl rfl)
theorem dJ36_bitCount_7 : decode cJ36_bitCount 7 = .ok (.land, 1) := dk_127 (dk_at dksJ36_bitCount_0 7 rfl rfl)
theorem dJ36_bitCount_8 : decode cJ36_bitCount 8 = .ok (.lsub, 1) := dk_101 (dk_at dksJ36_bitCount_0 8 rfl rfl)
theorem dJ36_bitCount_9 : decode cJ36_bitCount 9 = .ok (.lstore_n 0, 1) := dk_63 (dk_at dksJ36_bitCount_0 9 rfl rfl)
theorem dJ36_bitCount_10 : decode cJ36_bitCount 10 = .ok (.lload_n 0, 1) := dk_30 (dk_at dksJ36_bitCount_0 10 rfl rfl)
theorem dJ36_bitCount_11 : decode cJ36_bitCount 11 = .ok (.ldc2_w 316, 3) := dk_20 1 60 (dk_at dksJ36_bitCount_0 11 rfl rfl)
theorem dJ36_bitCount_14 : decode cJ36_bitCount 14 = .ok (.land, 1) := dk_127 (dk_at dksJ36_bitCount_0 14 rfl rfl)
theorem dJ36_bitCount_15 : decode cJ36_bitCount 15 = .ok (.lload_n 0, 1) := dk_30 (dk_at dksJ36_bitCount_0 15 rfl rfl)
theorem dJ36_bitCount_16 : decode cJ36_bitCount 16 = .ok (.iconst 2, 1) := dk_5 (dk_at dksJ36_bitCount_0 16 rfl rfl)
theorem dJ36_bitCount_17 : decode cJ36_bitCount 17 = .ok (.lushr, 1) := dk_125 (dk_at dksJ36_bitCount_0 17 rfl rfl)
theorem dJ36_bitCount_18 : decode cJ36_bitCount 18 = .ok (.ldc2_w 316, 3) := dk_20 1 60 (dk_at dksJ36_bitCount_0 18 rfl rfl)
theorem dJ36_bitCount_21 : decode cJ36_bitCount 21 = .ok (.land, 1) := dk_127 (dk_at dksJ36_bitCount_0 21 rfl rfl)
theorem dJ36_bitCount_22 : decode cJ36_bitCount 22 = .ok (.ladd, 1) := dk_97 (dk_at dksJ36_bitCount_0 22 rfl rfl)
theorem dJ36_bitCount_23 : decode cJ36_bitCount 23 = .ok (.lstore_n 0, 1) := dk_63 (dk_at dksJ36_bitCount_0 23 rfl rfl)
theorem dJ36_bitCount_24 : decode cJ36_bitCount 24 = .ok (.lload_n 0, 1) := dk_30 (dk_at dksJ36_bitCount_1 0 rfl rfl)
theorem dJ36_bitCount_25 : decode cJ36_bitCount 25 = .ok (.lload_n 0, 1) := dk_30 (dk_at dksJ36_bitCount_1 1 rfl rfl)
theorem dJ36_bitCount_26 : decode cJ36_bitCount 26 = .ok (.iconst 4, 1) := dk_7 (dk_at dksJ36_bitCount_1 2 rfl rfl)
theorem dJ36_bitCount_27 : decode cJ36_bitCount 27 = .ok (.lushr, 1) := dk_125 (dk_at dksJ36_bitCount_1 3 rfl rfl)
theorem dJ36_bitCount_28 : decode cJ36_bitCount 28 = .ok (.ladd, 1) := dk_97 (dk_at dksJ36_bitCount_1 4 rfl rfl)
theorem dJ36_bitCount_29 : decode cJ36_bitCount 29 = .ok (.ldc2_w 318, 3) := dk_20 1 62 (dk_at dksJ36_bitCount_1 5 rfl rfl)
theorem dJ36_bitCount_32 : decode cJ36_bitCount 32 = .ok (.land, 1) := dk_127 (dk_at dksJ36_bitCount_1 8 rfl rfl)
theorem dJ36_bitCount_33 : decode cJ36_bitCount 33 = .ok (.lstore_n 0, 1) := dk_63 (dk_at dksJ36_bitCount_1 9 rfl rfl)
theorem dJ36_bitCount_34 : decode cJ36_bitCount 34 = .ok (.lload_n 0, 1) := dk_30 (dk_at dksJ36_bitCount_1 10 rfl rfl)
theorem dJ36_bitCount_35 : decode cJ36_bitCount 35 = .ok (.lload_n 0, 1) := dk_30 (dk_at dksJ36_bitCount_1 11 rfl rfl)
theorem dJ36_bitCount_36 : decode cJ36_bitCount 36 = .ok (.bipush 8, 2) := dk_16 8 (dk_at dksJ36_bitCount_1 12 rfl rfl)
theorem dJ36_bitCount_38 : decode cJ36_bitCount 38 = .ok (.lushr, 1) := dk_125 (dk_at dksJ36_bitCount_1 14 rfl rfl)
theorem dJ36_bitCount_39 : decode cJ36_bitCount 39 = .ok (.ladd, 1) := dk_97 (dk_at dksJ36_bitCount_1 15 rfl rfl)
theorem dJ36_bitCount_40 : decode cJ36_bitCount 40 = .ok (.lstore_n 0, 1) := dk_63 (dk_at dksJ36_bitCount_1 16 rfl rfl)
theorem dJ36_bitCount_41 : decode cJ36_bitCount 41 = .ok (.lload_n 0, 1) := dk_30 (dk_at dksJ36_bitCount_1 17 rfl rfl)
theorem dJ36_bitCount_42 : decode cJ36_bitCount 42 = .ok (.lload_n 0, 1) := dk_30 (dk_at dksJ36_bitCount_1 18 rfl rfl)
theorem dJ36_bitCount_43 : decode cJ36_bitCount 43 = .ok (.bipush 16, 2) := dk_16 16 (dk_at dksJ36_bitCount_1 19 rfl rfl)
theorem dJ36_bitCount_45 : decode cJ36_bitCount 45 = .ok (.lushr, 1) := dk_125 (dk_at dksJ36_bitCount_1 21 rfl rfl)
theorem dJ36_bitCount_46 : decode cJ36_bitCount 46 = .ok (.ladd, 1) := dk_97 (dk_at dksJ36_bitCount_1 22 rfl rfl)
theorem dJ36_bitCount_47 : decode cJ36_bitCount 47 = .ok (.lstore_n 0, 1) := dk_63 (dk_at dksJ36_bitCount_1 23 rfl rfl)
theorem dJ36_bitCount_48 : decode cJ36_bitCount 48 = .ok (.lload_n 0, 1) := dk_30 (dk_at dksJ36_bitCount_2 0 rfl rfl)
theorem dJ36_bitCount_49 : decode cJ36_bitCount 49 = .ok (.lload_n 0, 1) := dk_30 (dk_at dksJ36_bitCount_2 1 rfl rfl)
theorem dJ36_bitCount_50 : decode cJ36_bitCount 50 = .ok (.bipush 32, 2) := dk_16 32 (dk_at dksJ36_bitCount_2 2 rfl rfl)
theorem dJ36_bitCount_52 : decode cJ36_bitCount 52 = .ok (.lushr, 1) := dk_125 (dk_at dksJ36_bitCount_2 4 rfl rfl)
theorem dJ36_bitCount_53 : decode cJ36_bitCount 53 = .ok (.ladd, 1) := dk_97 (dk_at dksJ36_bitCount_2 5 rfl rfl)
theorem dJ36_bitCount_54 : decode cJ36_bitCount 54 = .ok (.lstore_n 0, 1) := dk_63 (dk_at dksJ36_bitCount_2 6 rfl rfl)
theorem dJ36_bitCount_55 : decode cJ36_bitCount 55 = .ok (.lload_n 0, 1) := dk_30 (dk_at dksJ36_bitCount_2 7 rfl rfl)
theorem dJ36_bitCount_56 : decode cJ36_bitCount 56 = .ok (.l2i, 1) := dk_136 (dk_at dksJ36_bitCount_2 8 rfl rfl)
theorem dJ36_bitCount_57 : decode cJ36_bitCount 57 = .ok (.bipush 127, 2) := dk_16 127 (dk_at dksJ36_bitCount_2 9 rfl rfl)
theorem dJ36_bitCount_59 : decode cJ36_bitCount 59 = .ok (.iand, 1) := dk_126 (dk_at dksJ36_bitCount_2 11 rfl rfl)
theorem dJ36_bitCount_60 : decode cJ36_bitCount 60 = .ok (.ireturn, 1) := dk_172 (dk_at dksJ36_bitCount_2 12 rfl rfl)
abbrev cJ36_numberOfLeadingZeros : ByteArray := prog_40_method_48_code
def yJ36_numberOfLeadingZeros : MethodName := ⟨RJ36, "numberOfLeadingZeros", "(J)I"⟩
def dkwJ36_numberOfLeadingZeros_1 : List UInt8 := [184, 1, 52, 172]
abbrev dktJ36_numberOfLeadingZeros_1 : List UInt8 := dkwJ36_numberOfLeadingZeros_1 ++ []
def dkwJ36_numberOfLeadingZeros_0 : List UInt8 := [30, 16, 32, 125, 136, 61, 28, 154, 0, 14, 16, 32, 30, 136, 184, 1, 52, 96, 167, 0, 7, 28]
abbrev dktJ36_numberOfLeadingZeros_0 : List UInt8 := dkwJ36_numberOfLeadingZeros_0 ++ dktJ36_numberOfLeadingZeros_1
theorem dksJ36_numberOfLeadingZeros_0 : cJ36_numberOfLeadingZeros.data.toList.drop 0 = dktJ36_numberOfLeadingZeros_0 := by decide +kernel
theorem dksJ36_numberOfLeadingZeros_1 : cJ36_numberOfLeadingZeros.data.toList.drop 22 = dktJ36_numberOfLeadingZeros_1 := dk_seg dksJ36_numberOfLeadingZeros_0 22 rfl rfl
theorem dJ36_numberOfLeadingZeros_0 : decode cJ36_numberOfLeadingZeros 0 = .ok (.lload_n 0, 1) := dk_30 (dk_at dksJ36_numberOfLeadingZeros_0 0 rfl rfl)
theorem dJ36_numberOfLeadingZeros_1 : decode cJ36_numberOfLeadingZeros 1 = .ok (.bipush 32, 2) := dk_16 32 (dk_at dksJ36_numberOfLeadingZeros_0 1 rfl rfl)
theorem dJ36_numberOfLeadingZeros_3 : decode cJ36_numberOfLeadingZeros 3 = .ok (.lushr, 1) := dk_125 (dk_at dksJ36_numberOfLeadingZeros_0 3 rfl rfl)
theorem dJ36_numberOfLeadingZeros_4 : decode cJ36_numberOfLeadingZeros 4 = .ok (.l2i, 1) := dk_136 (dk_at dksJ36_numberOfLeadingZeros_0 4 rfl rfl)
theorem dJ36_numberOfLeadingZeros_5 : decode cJ36_numberOfLeadingZeros 5 = .ok (.istore_n 2, 1) := dk_61 (dk_at dksJ36_numberOfLeadingZeros_0 5 rfl rfl)
theorem dJ36_numberOfLeadingZeros_6 : decode cJ36_numberOfLeadingZeros 6 = .ok (.iload_n 2, 1) := dk_28 (dk_at dksJ36_numberOfLeadingZeros_0 6 rfl rfl)
theorem dJ36_numberOfLeadingZeros_7 : decode cJ36_numberOfLeadingZeros 7 = .ok (.ifCond .ne 14, 3) := dk_154 0 14 (dk_at dksJ36_numberOfLeadingZeros_0 7 rfl rfl)
theorem dJ36_numberOfLeadingZeros_10 : decode cJ36_numberOfLeadingZeros 10 = .ok (.bipush 32, 2) := dk_16 32 (dk_at dksJ36_numberOfLeadingZeros_0 10 rfl rfl)
theorem dJ36_numberOfLeadingZeros_12 : decode cJ36_numberOfLeadingZeros 12 = .ok (.lload_n 0, 1) := dk_30 (dk_at dksJ36_numberOfLeadingZeros_0 12 rfl rfl)
theorem dJ36_numberOfLeadingZeros_13 : decode cJ36_numberOfLeadingZeros 13 = .ok (.l2i, 1) := dk_136 (dk_at dksJ36_numberOfLeadingZeros_0 13 rfl rfl)
theorem dJ36_numberOfLeadingZeros_14 : decode cJ36_numberOfLeadingZeros 14 = .ok (.invokestatic 308, 3) := dk_184 1 52 (dk_at dksJ36_numberOfLeadingZeros_0 14 rfl rfl)
theorem dJ36_numberOfLeadingZeros_17 : decode cJ36_numberOfLeadingZeros 17 = .ok (.iadd, 1) := dk_96 (dk_at dksJ36_numberOfLeadingZeros_0 17 rfl rfl)
theorem dJ36_numberOfLeadingZeros_18 : decode cJ36_numberOfLeadingZeros 18 = .ok (.goto 7, 3) := dk_167 0 7 (dk_at dksJ36_numberOfLeadingZeros_0 18 rfl rfl)
theorem dJ36_numberOfLeadingZeros_21 : decode cJ36_numberOfLeadingZeros 21 = .ok (.iload_n 2, 1) := dk_28 (dk_at dksJ36_numberOfLeadingZeros_0 21 rfl rfl)
theorem dJ36_numberOfLeadingZeros_22 : decode cJ36_numberOfLeadingZeros 22 = .ok (.invokestatic 308, 3) := dk_184 1 52 (dk_at dksJ36_numberOfLeadingZeros_1 0 rfl rfl)
theorem dJ36_numberOfLeadingZeros_25 : decode cJ36_numberOfLeadingZeros 25 = .ok (.ireturn, 1) := dk_172 (dk_at dksJ36_numberOfLeadingZeros_1 3 rfl rfl)
theorem q127 : (Jvm.Cond.initialized "java/lang/Long") ∈ lw_all := lw_g (lw_at lw_m1 51 rfl) rfl
theorem q679 : (Jvm.Cond.static ({ cls := "java/lang/Long", name := "numberOfTrailingZeros", desc := "(J)I" } : Jvm.MethodName)) ∈ lw_all := lw_g (lw_at lw_m3 123 rfl) rfl
theorem q680 : (Jvm.Cond.code ({ cls := "java/lang/Long", name := "numberOfTrailingZeros", desc := "(J)I" } : Jvm.MethodName) prog_40_method_49_code (3 : Nat) (Option.some Jvm.ClassFile.FieldType.int)) ∈ lw_all := lw_g (lw_at lw_m3 124 rfl) rfl
theorem q681 : (Jvm.Cond.methodLink "java/lang/Long" (311 : Nat) ({ cls := "java/lang/Integer", name := "numberOfTrailingZeros", desc := "(I)I" } : Jvm.MethodName)) ∈ lw_all := lw_g (lw_at lw_m3 125 rfl) rfl
theorem q1082 : (Jvm.Cond.static ({ cls := "java/lang/Long", name := "bitCount", desc := "(J)I" } : Jvm.MethodName)) ∈ lw_all := lw_g (lw_at lw_m5 46 rfl) rfl
theorem q1083 : (Jvm.Cond.code ({ cls := "java/lang/Long", name := "bitCount", desc := "(J)I" } : Jvm.MethodName) prog_40_method_50_code (2 : Nat) (Option.some Jvm.ClassFile.FieldType.int)) ∈ lw_all := lw_g (lw_at lw_m5 47 rfl) rfl
theorem q1084 : (Jvm.Cond.constantLong "java/lang/Long" (314 : Nat) (6148914691236517205 : Int64)) ∈ lw_all := lw_g (lw_at lw_m5 48 rfl) rfl
theorem q1085 : (Jvm.Cond.constantLong "java/lang/Long" (316 : Nat) (3689348814741910323 : Int64)) ∈ lw_all := lw_g (lw_at lw_m5 49 rfl) rfl
theorem q1086 : (Jvm.Cond.constantLong "java/lang/Long" (318 : Nat) (1085102592571150095 : Int64)) ∈ lw_all := lw_g (lw_at lw_m5 50 rfl) rfl
theorem q1534 : (Jvm.Cond.static ({ cls := "java/lang/Long", name := "numberOfLeadingZeros", desc := "(J)I" } : Jvm.MethodName)) ∈ lw_all := lw_g (lw_at lw_m7 18 rfl) rfl
theorem q1535 : (Jvm.Cond.code ({ cls := "java/lang/Long", name := "numberOfLeadingZeros", desc := "(J)I" } : Jvm.MethodName) prog_40_method_48_code (3 : Nat) (Option.some Jvm.ClassFile.FieldType.int)) ∈ lw_all := lw_g (lw_at lw_m7 19 rfl) rfl
theorem q1536 : (Jvm.Cond.methodLink "java/lang/Long" (308 : Nat) ({ cls := "java/lang/Integer", name := "numberOfLeadingZeros", desc := "(I)I" } : Jvm.MethodName)) ∈ lw_all := lw_g (lw_at lw_m7 20 rfl) rfl
/-! java/util/TreeMap$Entry -/
def RJ37 : String := "java/util/TreeMap$Entry"
def TJ37 : u_T := fun k => match k with
  | 0 => ("java/util/TreeMap$Entry", "key", "Ljava/lang/Object;", false)
  | 1 => ("java/util/TreeMap$Entry", "value", "Ljava/lang/Object;", false)
  | 2 => ("java/util/TreeMap$Entry", "left", "Ljava/util/TreeMap$Entry;", false)
  | 3 => ("java/util/TreeMap$Entry", "right", "Ljava/util/TreeMap$Entry;", false)
  | 4 => ("java/util/TreeMap$Entry", "parent", "Ljava/util/TreeMap$Entry;", false)
  | _ => ("java/util/TreeMap$Entry", "color", "Z", false)
def tyJ37 : Nat → FieldType := fun k => match k with
  | 0 => .object "java/lang/Object"
  | 1 => .object "java/lang/Object"
  | 2 => .object "java/util/TreeMap$Entry"
  | 3 => .object "java/util/TreeMap$Entry"
  | 4 => .object "java/util/TreeMap$Entry"
  | _ => .boolean
abbrev wsJ370 : List Cond := u_ws RJ37 TJ37 6
theorem nmJ37 : ∀ a, a < 6 → ∀ b, b < 6 → a ≠ b → (TJ37 a).2.1 ≠ (TJ37 b).2.1 := by decide +kernel
theorem tyJ37_ok : ∀ k, k < 6 → parseFieldDescriptor (TJ37 k).2.2.1 = some (tyJ37 k) := by decide +kernel
abbrev cJ37_init : ByteArray := prog_88_method_1_code
def yJ37_init : MethodName := ⟨RJ37, "<init>", "(Ljava/lang/Object;Ljava/lang/Object;Ljava/util/TreeMap$Entry;)V"⟩
def dkwJ37_init_1 : List UInt8 := [177]
abbrev dktJ37_init_1 : List UInt8 := dkwJ37_init_1 ++ []
def dkwJ37_init_0 : List UInt8 := [42, 183, 0, 3, 42, 4, 181, 0, 9, 42, 43, 181, 0, 15, 42, 44, 181, 0, 19, 42, 45, 181, 0, 22]
abbrev dktJ37_init_0 : List UInt8 := dkwJ37_init_0 ++ dktJ37_init_1
theorem dksJ37_init_0 : cJ37_init.data.toList.drop 0 = dktJ37_init_0 := by decide +kernel
theorem dksJ37_init_1 : cJ37_init.data.toList.drop 24 = dktJ37_init_1 := dk_seg dksJ37_init_0 24 rfl rfl
theorem dJ37_init_0 : decode cJ37_init 0 = .ok (.aload_n 0, 1) := dk_42 (dk_at dksJ37_init_0 0 rfl rfl)
theorem dJ37_init_1 : decode cJ37_init 1 = .ok (.invokespecial 3, 3) := dk_183 0 3 (dk_at dksJ37_init_0 1 rfl rfl)
theorem dJ37_init_4 : decode cJ37_init 4 = .ok (.aload_n 0, 1) := dk_42 (dk_at dksJ37_init_0 4 rfl rfl)
theorem dJ37_init_5 : decode cJ37_init 5 = .ok (.iconst 1, 1) := dk_4 (dk_at dksJ37_init_0 5 rfl rfl)
theorem dJ37_init_6 : decode cJ37_init 6 = .ok (.putfield 9, 3) := dk_181 0 9 (dk_at dksJ37_init_0 6 rfl rfl)
theorem dJ37_init_9 : decode cJ37_init 9 = .ok (.aload_n 0, 1) := dk_42 (dk_at dksJ37_init_0 9 rfl rfl)
theorem dJ37_init_10 : decode cJ37_init 10 = .ok (.aload_n 1, 1) := dk_43 (dk_at dksJ37_init_0 10 rfl rfl)
theorem dJ37_init_11 : decode cJ37_init 11 = .ok (.putfield 15, 3) := dk_181 0 15 (dk_at dksJ37_init_0 11 rfl rfl)
theorem dJ37_init_14 : decode cJ37_init 14 = .ok (.aload_n 0, 1) := dk_42 (dk_at dksJ37_init_0 14 rfl rfl)
theorem dJ37_init_15 : decode cJ37_init 15 = .ok (.aload_n 2, 1) := dk_44 (dk_at dksJ37_init_0 15 rfl rfl)
theorem dJ37_init_16 : decode cJ37_init 16 = .ok (.putfield 19, 3) := dk_181 0 19 (dk_at dksJ37_init_0 16 rfl rfl)
theorem dJ37_init_19 : decode cJ37_init 19 = .ok (.aload_n 0, 1) := dk_42 (dk_at dksJ37_init_0 19 rfl rfl)
theorem dJ37_init_20 : decode cJ37_init 20 = .ok (.aload_n 3, 1) := dk_45 (dk_at dksJ37_init_0 20 rfl rfl)
theorem dJ37_init_21 : decode cJ37_init 21 = .ok (.putfield 22, 3) := dk_181 0 22 (dk_at dksJ37_init_0 21 rfl rfl)
theorem dJ37_init_24 : decode cJ37_init 24 = .ok (.return_, 1) := dk_177 (dk_at dksJ37_init_1 0 rfl rfl)
abbrev cJ37_getKey : ByteArray := prog_88_method_2_code
def yJ37_getKey : MethodName := ⟨RJ37, "getKey", "()Ljava/lang/Object;"⟩
theorem dJ37_getKey_0 : decode cJ37_getKey 0 = .ok (.aload_n 0, 1) := by decide +kernel
theorem dJ37_getKey_1 : decode cJ37_getKey 1 = .ok (.getfield 15, 3) := by decide +kernel
theorem dJ37_getKey_4 : decode cJ37_getKey 4 = .ok (.areturn, 1) := by decide +kernel
abbrev cJ37_getValue : ByteArray := prog_88_method_3_code
def yJ37_getValue : MethodName := ⟨RJ37, "getValue", "()Ljava/lang/Object;"⟩
theorem dJ37_getValue_0 : decode cJ37_getValue 0 = .ok (.aload_n 0, 1) := by decide +kernel
theorem dJ37_getValue_1 : decode cJ37_getValue 1 = .ok (.getfield 19, 3) := by decide +kernel
theorem dJ37_getValue_4 : decode cJ37_getValue 4 = .ok (.areturn, 1) := by decide +kernel
theorem q128 : (Jvm.Cond.initialized "java/util/TreeMap$Entry") ∈ lw_all := lw_g (lw_at lw_m1 52 rfl) rfl
theorem q775 : (Jvm.Cond.selects "java/util/TreeMap$Entry" ({ cls := "java/lang/Object", name := "getClass", desc := "()Ljava/lang/Class;" } : Jvm.MethodName) ({ cls := "java/lang/Object", name := "getClass", desc := "()Ljava/lang/Class;" } : Jvm.MethodName)) ∈ lw_all := lw_g (lw_at lw_m3 219 rfl) rfl
theorem q2101 : (Jvm.Cond.instantiable "java/util/TreeMap$Entry" (6 : Nat)) ∈ lw_all := lw_g (lw_at lw_m9 105 rfl) rfl
theorem q2103 : (Jvm.Cond.instanceMethod ({ cls := "java/util/TreeMap$Entry", name := "<init>", desc := "(Ljava/lang/Object;Ljava/lang/Object;Ljava/util/TreeMap$Entry;)V" } : Jvm.MethodName)) ∈ lw_all := lw_g (lw_at lw_m9 107 rfl) rfl
theorem q2104 : (Jvm.Cond.code ({ cls := "java/util/TreeMap$Entry", name := "<init>", desc := "(Ljava/lang/Object;Ljava/lang/Object;Ljava/util/TreeMap$Entry;)V" } : Jvm.MethodName) prog_88_method_1_code (4 : Nat) (Option.none : Option Jvm.ClassFile.FieldType)) ∈ lw_all := lw_g (lw_at lw_m9 108 rfl) rfl
theorem q2105 : (Jvm.Cond.methodLink "java/util/TreeMap$Entry" (3 : Nat) ({ cls := "java/lang/Object", name := "<init>", desc := "()V" } : Jvm.MethodName)) ∈ lw_all := lw_g (lw_at lw_m9 109 rfl) rfl
theorem q2106 : (Jvm.Cond.fieldLink "java/util/TreeMap$Entry" (15 : Nat) "java/util/TreeMap$Entry" "key" "Ljava/lang/Object;") ∈ lw_all := lw_g (lw_at lw_m9 110 rfl) rfl
theorem q2109 : (Jvm.Cond.fieldLink "java/util/TreeMap$Entry" (19 : Nat) "java/util/TreeMap$Entry" "value" "Ljava/lang/Object;") ∈ lw_all := lw_g (lw_at lw_m9 113 rfl) rfl
theorem q2116 : (Jvm.Cond.fieldLink "java/util/TreeMap$Entry" (22 : Nat) "java/util/TreeMap$Entry" "parent" "Ljava/util/TreeMap$Entry;") ∈ lw_all := lw_g (lw_at lw_m9 120 rfl) rfl
theorem q2118 : (Jvm.Cond.fieldLink "java/util/TreeMap$Entry" (9 : Nat) "java/util/TreeMap$Entry" "color" "Z") ∈ lw_all := lw_g (lw_at lw_m9 122 rfl) rfl
theorem q2120 : (Jvm.Cond.lays "java/util/TreeMap$Entry" "java/util/TreeMap$Entry" "key" "Ljava/lang/Object;") ∈ lw_all := lw_g (lw_at lw_m9 124 rfl) rfl
theorem q2121 : (Jvm.Cond.soleField "java/util/TreeMap$Entry" "key") ∈ lw_all := lw_g (lw_at lw_m9 125 rfl) rfl
theorem q2122 : (Jvm.Cond.lays "java/util/TreeMap$Entry" "java/util/TreeMap$Entry" "value" "Ljava/lang/Object;") ∈ lw_all := lw_g (lw_at lw_m9 126 rfl) rfl
theorem q2123 : (Jvm.Cond.soleField "java/util/TreeMap$Entry" "value") ∈ lw_all := lw_g (lw_at lw_m9 127 rfl) rfl
theorem q2124 : (Jvm.Cond.lays "java/util/TreeMap$Entry" "java/util/TreeMap$Entry" "left" "Ljava/util/TreeMap$Entry;") ∈ lw_all := lw_g (lw_at lw_m9 128 rfl) rfl
theorem q2125 : (Jvm.Cond.soleField "java/util/TreeMap$Entry" "left") ∈ lw_all := lw_g (lw_at lw_m9 129 rfl) rfl
theorem q2126 : (Jvm.Cond.lays "java/util/TreeMap$Entry" "java/util/TreeMap$Entry" "right" "Ljava/util/TreeMap$Entry;") ∈ lw_all := lw_g (lw_at lw_m9 130 rfl) rfl
theorem q2127 : (Jvm.Cond.soleField "java/util/TreeMap$Entry" "right") ∈ lw_all := lw_g (lw_at lw_m9 131 rfl) rfl
theorem q2128 : (Jvm.Cond.lays "java/util/TreeMap$Entry" "java/util/TreeMap$Entry" "parent" "Ljava/util/TreeMap$Entry;") ∈ lw_all := lw_g (lw_at lw_m9 132 rfl) rfl
theorem q2129 : (Jvm.Cond.soleField "java/util/TreeMap$Entry" "parent") ∈ lw_all := lw_g (lw_at lw_m9 133 rfl) rfl
theorem q2130 : (Jvm.Cond.lays "java/util/TreeMap$Entry" "java/util/TreeMap$Entry" "color" "Z") ∈ lw_all := lw_g (lw_at lw_m9 134 rfl) rfl
theorem q2131 : (Jvm.Cond.soleField "java/util/TreeMap$Entry" "color") ∈ lw_all := lw_g (lw_at lw_m9 135 rfl) rfl
theorem q2132 : (Jvm.Cond.superclass "java/util/TreeMap$Entry" "java/lang/Object") ∈ lw_all := lw_g (lw_at lw_m9 136 rfl) rfl
theorem q2690 : (Jvm.Cond.castable "java/util/TreeMap$Entry" "java/util/Map$Entry") ∈ lw_tbl := lw_at lw_m11 214 rfl
theorem q2691 : (Jvm.Cond.selects "java/util/TreeMap$Entry" ({ cls := "java/util/Map$Entry", name := "getKey", desc := "()Ljava/lang/Object;" } : Jvm.MethodName) ({ cls := "java/util/TreeMap$Entry", name := "getKey", desc := "()Ljava/lang/Object;" } : Jvm.MethodName)) ∈ lw_all := lw_g (lw_at lw_m11 215 rfl) rfl
theorem q2692 : (Jvm.Cond.unhidden "java/util/TreeMap$Entry" "getKey" "()Ljava/lang/Object;") ∈ lw_tbl := lw_at lw_m11 216 rfl
theorem q2693 : (Jvm.Cond.instanceMethod ({ cls := "java/util/TreeMap$Entry", name := "getKey", desc := "()Ljava/lang/Object;" } : Jvm.MethodName)) ∈ lw_all := lw_g (lw_at lw_m11 217 rfl) rfl
theorem q2694 : (Jvm.Cond.publicMethod ({ cls := "java/util/TreeMap$Entry", name := "getKey", desc := "()Ljava/lang/Object;" } : Jvm.MethodName)) ∈ lw_tbl := lw_at lw_m11 218 rfl
theorem q2695 : (Jvm.Cond.code ({ cls := "java/util/TreeMap$Entry", name := "getKey", desc := "()Ljava/lang/Object;" } : Jvm.MethodName) prog_88_method_2_code (1 : Nat) (Option.some (Jvm.ClassFile.FieldType.object "java/lang/Object"))) ∈ lw_all := lw_g (lw_at lw_m11 219 rfl) rfl
theorem q2707 : (Jvm.Cond.selects "java/util/TreeMap$Entry" ({ cls := "java/util/Map$Entry", name := "getValue", desc := "()Ljava/lang/Object;" } : Jvm.MethodName) ({ cls := "java/util/TreeMap$Entry", name := "getValue", desc := "()Ljava/lang/Object;" } : Jvm.MethodName)) ∈ lw_all := lw_g (lw_at lw_m11 231 rfl) rfl
theorem q2708 : (Jvm.Cond.unhidden "java/util/TreeMap$Entry" "getValue" "()Ljava/lang/Object;") ∈ lw_tbl := lw_at lw_m11 232 rfl
theorem q2709 : (Jvm.Cond.instanceMethod ({ cls := "java/util/TreeMap$Entry", name := "getValue", desc := "()Ljava/lang/Object;" } : Jvm.MethodName)) ∈ lw_all := lw_g (lw_at lw_m11 233 rfl) rfl
theorem q2710 : (Jvm.Cond.publicMethod ({ cls := "java/util/TreeMap$Entry", name := "getValue", desc := "()Ljava/lang/Object;" } : Jvm.MethodName)) ∈ lw_tbl := lw_at lw_m11 234 rfl
theorem q2711 : (Jvm.Cond.code ({ cls := "java/util/TreeMap$Entry", name := "getValue", desc := "()Ljava/lang/Object;" } : Jvm.MethodName) prog_88_method_3_code (1 : Nat) (Option.some (Jvm.ClassFile.FieldType.object "java/lang/Object"))) ∈ lw_all := lw_g (lw_at lw_m11 235 rfl) rfl
theorem q3705 : (Jvm.Cond.castable "java/util/TreeMap$Entry" "java/lang/Object") ∈ lw_tbl := lw_at lw_m16 29 rfl
theorem in_J37 : ∀ w ∈ wsJ370, w ∈ lw_all := lw_in wsJ370 [2120, 2122, 2124, 2126, 2128, 2130] (by decide +kernel) (by decide +kernel)
/-! java/util/HashMap$Node -/
def RJ38 : String := "java/util/HashMap$Node"
def TJ38 : u_T := fun k => match k with
  | 0 => ("java/util/HashMap$Node", "hash", "I", true)
  | 1 => ("java/util/HashMap$Node", "key", "Ljava/lang/Object;", true)
  | 2 => ("java/util/HashMap$Node", "value", "Ljava/lang/Object;", false)
  | _ => ("java/util/HashMap$Node", "next", "Ljava/util/HashMap$Node;", false)
def tyJ38 : Nat → FieldType := fun k => match k with
  | 0 => .int
  | 1 => .object "java/lang/Object"
  | 2 => .object "java/lang/Object"
  | _ => .object "java/util/HashMap$Node"
abbrev wsJ380 : List Cond := u_ws RJ38 TJ38 4
theorem nmJ38 : ∀ a, a < 4 → ∀ b, b < 4 → a ≠ b → (TJ38 a).2.1 ≠ (TJ38 b).2.1 := by decide +kernel
theorem tyJ38_ok : ∀ k, k < 4 → parseFieldDescriptor (TJ38 k).2.2.1 = some (tyJ38 k) := by decide +kernel
abbrev cJ38_init : ByteArray := prog_69_method_1_code
def yJ38_init : MethodName := ⟨RJ38, "<init>", "(ILjava/lang/Object;Ljava/lang/Object;Ljava/util/HashMap$Node;)V"⟩
def dkwJ38_init_1 : List UInt8 := [181, 0, 20, 177]
abbrev dktJ38_init_1 : List UInt8 := dkwJ38_init_1 ++ []
def dkwJ38_init_0 : List UInt8 := [42, 183, 0, 1, 42, 27, 181, 0, 7, 42, 44, 181, 0, 13, 42, 45, 181, 0, 17, 42, 25, 4]
abbrev dktJ38_init_0 : List UInt8 := dkwJ38_init_0 ++ dktJ38_init_1
theorem dksJ38_init_0 : cJ38_init.data.toList.drop 0 = dktJ38_init_0 := by decide +kernel
theorem dksJ38_init_1 : cJ38_init.data.toList.drop 22 = dktJ38_init_1 := dk_seg dksJ38_init_0 22 rfl rfl
theorem dJ38_init_0 : decode cJ38_init 0 = .ok (.aload_n 0, 1) := dk_42 (dk_at dksJ38_init_0 0 rfl rfl)
theorem dJ38_init_1 : decode cJ38_init 1 = .ok (.invokespecial 1, 3) := dk_183 0 1 (dk_at dksJ38_init_0 1 rfl rfl)
theorem dJ38_init_4 : decode cJ38_init 4 = .ok (.aload_n 0, 1) := dk_42 (dk_at dksJ38_init_0 4 rfl rfl)
theorem dJ38_init_5 : decode cJ38_init 5 = .ok (.iload_n 1, 1) := dk_27 (dk_at dksJ38_init_0 5 rfl rfl)
theorem dJ38_init_6 : decode cJ38_init 6 = .ok (.putfield 7, 3) := dk_181 0 7 (dk_at dksJ38_init_0 6 rfl rfl)
theorem dJ38_init_9 : decode cJ38_init 9 = .ok (.aload_n 0, 1) := dk_42 (dk_at dksJ38_init_0 9 rfl rfl)
theorem dJ38_init_10 : decode cJ38_init 10 = .ok (.aload_n 2, 1) := dk_44 (dk_at dksJ38_init_0 10 rfl rfl)
theorem dJ38_init_11 : decode cJ38_init 11 = .ok (.putfield 13, 3) := dk_181 0 13 (dk_at dksJ38_init_0 11 rfl rfl)
theorem dJ38_init_14 : decode cJ38_init 14 = .ok (.aload_n 0, 1) := dk_42 (dk_at dksJ38_init_0 14 rfl rfl)
theorem dJ38_init_15 : decode cJ38_init 15 = .ok (.aload_n 3, 1) := dk_45 (dk_at dksJ38_init_0 15 rfl rfl)
theorem dJ38_init_16 : decode cJ38_init 16 = .ok (.putfield 17, 3) := dk_181 0 17 (dk_at dksJ38_init_0 16 rfl rfl)
theorem dJ38_init_19 : decode cJ38_init 19 = .ok (.aload_n 0, 1) := dk_42 (dk_at dksJ38_init_0 19 rfl rfl)
theorem dJ38_init_20 : decode cJ38_init 20 = .ok (.aload 4, 2) := dk_25 4 (dk_at dksJ38_init_0 20 rfl rfl)
theorem dJ38_init_22 : decode cJ38_init 22 = .ok (.putfield 20, 3) := dk_181 0 20 (dk_at dksJ38_init_1 0 rfl rfl)
theorem dJ38_init_25 : decode cJ38_init 25 = .ok (.return_, 1) := dk_177 (dk_at dksJ38_init_1 3 rfl rfl)
abbrev cJ38_getKey : ByteArray := prog_69_method_2_code
def yJ38_getKey : MethodName := ⟨RJ38, "getKey", "()Ljava/lang/Object;"⟩
theorem dJ38_getKey_0 : decode cJ38_getKey 0 = .ok (.aload_n 0, 1) := by decide +kernel
theorem dJ38_getKey_1 : decode cJ38_getKey 1 = .ok (.getfield 13, 3) := by decide +kernel
theorem dJ38_getKey_4 : decode cJ38_getKey 4 = .ok (.areturn, 1) := by decide +kernel
abbrev cJ38_getValue : ByteArray := prog_69_method_3_code
def yJ38_getValue : MethodName := ⟨RJ38, "getValue", "()Ljava/lang/Object;"⟩
theorem dJ38_getValue_0 : decode cJ38_getValue 0 = .ok (.aload_n 0, 1) := by decide +kernel
theorem dJ38_getValue_1 : decode cJ38_getValue 1 = .ok (.getfield 17, 3) := by decide +kernel
theorem dJ38_getValue_4 : decode cJ38_getValue 4 = .ok (.areturn, 1) := by decide +kernel
theorem q129 : (Jvm.Cond.initialized "java/util/HashMap$Node") ∈ lw_all := lw_g (lw_at lw_m1 53 rfl) rfl
theorem q771 : (Jvm.Cond.selects "java/util/HashMap$Node" ({ cls := "java/lang/Object", name := "getClass", desc := "()Ljava/lang/Class;" } : Jvm.MethodName) ({ cls := "java/lang/Object", name := "getClass", desc := "()Ljava/lang/Class;" } : Jvm.MethodName)) ∈ lw_all := lw_g (lw_at lw_m3 215 rfl) rfl
theorem q1671 : (Jvm.Cond.instantiable "java/util/HashMap$Node" (4 : Nat)) ∈ lw_all := lw_g (lw_at lw_m7 155 rfl) rfl
theorem q1673 : (Jvm.Cond.instanceMethod ({ cls := "java/util/HashMap$Node", name := "<init>", desc := "(ILjava/lang/Object;Ljava/lang/Object;Ljava/util/HashMap$Node;)V" } : Jvm.MethodName)) ∈ lw_all := lw_g (lw_at lw_m7 157 rfl) rfl
theorem q1674 : (Jvm.Cond.code ({ cls := "java/util/HashMap$Node", name := "<init>", desc := "(ILjava/lang/Object;Ljava/lang/Object;Ljava/util/HashMap$Node;)V" } : Jvm.MethodName) prog_69_method_1_code (5 : Nat) (Option.none : Option Jvm.ClassFile.FieldType)) ∈ lw_all := lw_g (lw_at lw_m7 158 rfl) rfl
theorem q1675 : (Jvm.Cond.methodLink "java/util/HashMap$Node" (1 : Nat) ({ cls := "java/lang/Object", name := "<init>", desc := "()V" } : Jvm.MethodName)) ∈ lw_all := lw_g (lw_at lw_m7 159 rfl) rfl
theorem q1676 : (Jvm.Cond.fieldLink "java/util/HashMap$Node" (7 : Nat) "java/util/HashMap$Node" "hash" "I") ∈ lw_all := lw_g (lw_at lw_m7 160 rfl) rfl
theorem q1681 : (Jvm.Cond.fieldLink "java/util/HashMap$Node" (13 : Nat) "java/util/HashMap$Node" "key" "Ljava/lang/Object;") ∈ lw_all := lw_g (lw_at lw_m7 165 rfl) rfl
theorem q1686 : (Jvm.Cond.fieldLink "java/util/HashMap$Node" (17 : Nat) "java/util/HashMap$Node" "value" "Ljava/lang/Object;") ∈ lw_all := lw_g (lw_at lw_m7 170 rfl) rfl
theorem q1688 : (Jvm.Cond.fieldLink "java/util/HashMap$Node" (20 : Nat) "java/util/HashMap$Node" "next" "Ljava/util/HashMap$Node;") ∈ lw_all := lw_g (lw_at lw_m7 172 rfl) rfl
theorem q1695 : (Jvm.Cond.laysFinal "java/util/HashMap$Node" "java/util/HashMap$Node" "hash" "I") ∈ lw_all := lw_g (lw_at lw_m7 179 rfl) rfl
theorem q1696 : (Jvm.Cond.soleField "java/util/HashMap$Node" "hash") ∈ lw_all := lw_g (lw_at lw_m7 180 rfl) rfl
theorem q1697 : (Jvm.Cond.laysFinal "java/util/HashMap$Node" "java/util/HashMap$Node" "key" "Ljava/lang/Object;") ∈ lw_all := lw_g (lw_at lw_m7 181 rfl) rfl
theorem q1698 : (Jvm.Cond.soleField "java/util/HashMap$Node" "key") ∈ lw_all := lw_g (lw_at lw_m7 182 rfl) rfl
theorem q1699 : (Jvm.Cond.lays "java/util/HashMap$Node" "java/util/HashMap$Node" "value" "Ljava/lang/Object;") ∈ lw_all := lw_g (lw_at lw_m7 183 rfl) rfl
theorem q1700 : (Jvm.Cond.soleField "java/util/HashMap$Node" "value") ∈ lw_all := lw_g (lw_at lw_m7 184 rfl) rfl
theorem q1701 : (Jvm.Cond.lays "java/util/HashMap$Node" "java/util/HashMap$Node" "next" "Ljava/util/HashMap$Node;") ∈ lw_all := lw_g (lw_at lw_m7 185 rfl) rfl
theorem q1702 : (Jvm.Cond.soleField "java/util/HashMap$Node" "next") ∈ lw_all := lw_g (lw_at lw_m7 186 rfl) rfl
theorem q1703 : (Jvm.Cond.superclass "java/util/HashMap$Node" "java/lang/Object") ∈ lw_all := lw_g (lw_at lw_m7 187 rfl) rfl
theorem q2681 : (Jvm.Cond.castable "java/util/HashMap$Node" "java/util/Map$Entry") ∈ lw_tbl := lw_at lw_m11 205 rfl
theorem q2682 : (Jvm.Cond.selects "java/util/HashMap$Node" ({ cls := "java/util/Map$Entry", name := "getKey", desc := "()Ljava/lang/Object;" } : Jvm.MethodName) ({ cls := "java/util/HashMap$Node", name := "getKey", desc := "()Ljava/lang/Object;" } : Jvm.MethodName)) ∈ lw_all := lw_g (lw_at lw_m11 206 rfl) rfl
theorem q2683 : (Jvm.Cond.unhidden "java/util/HashMap$Node" "getKey" "()Ljava/lang/Object;") ∈ lw_tbl := lw_at lw_m11 207 rfl
theorem q2684 : (Jvm.Cond.instanceMethod ({ cls := "java/util/HashMap$Node", name := "getKey", desc := "()Ljava/lang/Object;" } : Jvm.MethodName)) ∈ lw_all := lw_g (lw_at lw_m11 208 rfl) rfl
theorem q2685 : (Jvm.Cond.publicMethod ({ cls := "java/util/HashMap$Node", name := "getKey", desc := "()Ljava/lang/Object;" } : Jvm.MethodName)) ∈ lw_tbl := lw_at lw_m11 209 rfl
theorem q2686 : (Jvm.Cond.code ({ cls := "java/util/HashMap$Node", name := "getKey", desc := "()Ljava/lang/Object;" } : Jvm.MethodName) prog_69_method_2_code (1 : Nat) (Option.some (Jvm.ClassFile.FieldType.object "java/lang/Object"))) ∈ lw_all := lw_g (lw_at lw_m11 210 rfl) rfl
theorem q2700 : (Jvm.Cond.selects "java/util/HashMap$Node" ({ cls := "java/util/Map$Entry", name := "getValue", desc := "()Ljava/lang/Object;" } : Jvm.MethodName) ({ cls := "java/util/HashMap$Node", name := "getValue", desc := "()Ljava/lang/Object;" } : Jvm.MethodName)) ∈ lw_all := lw_g (lw_at lw_m11 224 rfl) rfl
theorem q2701 : (Jvm.Cond.unhidden "java/util/HashMap$Node" "getValue" "()Ljava/lang/Object;") ∈ lw_tbl := lw_at lw_m11 225 rfl
theorem q2702 : (Jvm.Cond.instanceMethod ({ cls := "java/util/HashMap$Node", name := "getValue", desc := "()Ljava/lang/Object;" } : Jvm.MethodName)) ∈ lw_all := lw_g (lw_at lw_m11 226 rfl) rfl
theorem q2703 : (Jvm.Cond.publicMethod ({ cls := "java/util/HashMap$Node", name := "getValue", desc := "()Ljava/lang/Object;" } : Jvm.MethodName)) ∈ lw_tbl := lw_at lw_m11 227 rfl
theorem q2704 : (Jvm.Cond.code ({ cls := "java/util/HashMap$Node", name := "getValue", desc := "()Ljava/lang/Object;" } : Jvm.MethodName) prog_69_method_3_code (1 : Nat) (Option.some (Jvm.ClassFile.FieldType.object "java/lang/Object"))) ∈ lw_all := lw_g (lw_at lw_m11 228 rfl) rfl
theorem q3676 : (Jvm.Cond.castable "java/util/HashMap$Node" "java/lang/Object") ∈ lw_tbl := lw_at lw_m16 0 rfl
theorem in_J38 : ∀ w ∈ wsJ380, w ∈ lw_all := lw_in wsJ380 [1695, 1697, 1699, 1701] (by decide +kernel) (by decide +kernel)
/-! java/util/LinkedHashMap$Entry -/
def RJ39 : String := "java/util/LinkedHashMap$Entry"
abbrev cJ39_init : ByteArray := prog_72_method_1_code
def yJ39_init : MethodName := ⟨RJ39, "<init>", "(ILjava/lang/Object;Ljava/lang/Object;Ljava/util/HashMap$Node;)V"⟩
def dkwJ39_init_0 : List UInt8 := [42, 27, 44, 45, 25, 4, 183, 0, 1, 177]
abbrev dktJ39_init_0 : List UInt8 := dkwJ39_init_0 ++ []
theorem dksJ39_init_0 : cJ39_init.data.toList.drop 0 = dktJ39_init_0 := by decide +kernel
theorem dJ39_init_0 : decode cJ39_init 0 = .ok (.aload_n 0, 1) := dk_42 (dk_at dksJ39_init_0 0 rfl rfl)
theorem dJ39_init_1 : decode cJ39_init 1 = .ok (.iload_n 1, 1) := dk_27 (dk_at dksJ39_init_0 1 rfl rfl)
theorem dJ39_init_2 : decode cJ39_init 2 = .ok (.aload_n 2, 1) := dk_44 (dk_at dksJ39_init_0 2 rfl rfl)
theorem dJ39_init_3 : decode cJ39_init 3 = .ok (.aload_n 3, 1) := dk_45 (dk_at dksJ39_init_0 3 rfl rfl)
theorem dJ39_init_4 : decode cJ39_init 4 = .ok (.aload 4, 2) := dk_25 4 (dk_at dksJ39_init_0 4 rfl rfl)
theorem dJ39_init_6 : decode cJ39_init 6 = .ok (.invokespecial 1, 3) := dk_183 0 1 (dk_at dksJ39_init_0 6 rfl rfl)
theorem dJ39_init_9 : decode cJ39_init 9 = .ok (.return_, 1) := dk_177 (dk_at dksJ39_init_0 9 rfl rfl)
theorem q130 : (Jvm.Cond.initialized "java/util/LinkedHashMap$Entry") ∈ lw_all := lw_g (lw_at lw_m1 54 rfl) rfl
theorem q1739 : (Jvm.Cond.instanceMethod ({ cls := "java/util/LinkedHashMap$Entry", name := "<init>", desc := "(ILjava/lang/Object;Ljava/lang/Object;Ljava/util/HashMap$Node;)V" } : Jvm.MethodName)) ∈ lw_all := lw_g (lw_at lw_m7 223 rfl) rfl
theorem q1740 : (Jvm.Cond.code ({ cls := "java/util/LinkedHashMap$Entry", name := "<init>", desc := "(ILjava/lang/Object;Ljava/lang/Object;Ljava/util/HashMap$Node;)V" } : Jvm.MethodName) prog_72_method_1_code (5 : Nat) (Option.none : Option Jvm.ClassFile.FieldType)) ∈ lw_all := lw_g (lw_at lw_m7 224 rfl) rfl
theorem q1741 : (Jvm.Cond.methodLink "java/util/LinkedHashMap$Entry" (1 : Nat) ({ cls := "java/util/HashMap$Node", name := "<init>", desc := "(ILjava/lang/Object;Ljava/lang/Object;Ljava/util/HashMap$Node;)V" } : Jvm.MethodName)) ∈ lw_all := lw_g (lw_at lw_m7 225 rfl) rfl
theorem q1759 : (Jvm.Cond.soleField "java/util/LinkedHashMap$Entry" "before") ∈ lw_all := lw_g (lw_at lw_m8 3 rfl) rfl
theorem q1761 : (Jvm.Cond.soleField "java/util/LinkedHashMap$Entry" "after") ∈ lw_all := lw_g (lw_at lw_m8 5 rfl) rfl
/-! java/util/HashMap$TreeNode -/
def RJ40 : String := "java/util/HashMap$TreeNode"
def TJ40 : u_T := fun k => match k with
  | 0 => ("java/util/LinkedHashMap$Entry", "before", "Ljava/util/LinkedHashMap$Entry;", false)
  | 1 => ("java/util/LinkedHashMap$Entry", "after", "Ljava/util/LinkedHashMap$Entry;", false)
  | 2 => ("java/util/HashMap$Node", "hash", "I", true)
  | 3 => ("java/util/HashMap$Node", "key", "Ljava/lang/Object;", true)
  | 4 => ("java/util/HashMap$Node", "value", "Ljava/lang/Object;", false)
  | 5 => ("java/util/HashMap$Node", "next", "Ljava/util/HashMap$Node;", false)
  | 6 => ("java/util/HashMap$TreeNode", "parent", "Ljava/util/HashMap$TreeNode;", false)
  | 7 => ("java/util/HashMap$TreeNode", "left", "Ljava/util/HashMap$TreeNode;", false)
  | 8 => ("java/util/HashMap$TreeNode", "right", "Ljava/util/HashMap$TreeNode;", false)
  | 9 => ("java/util/HashMap$TreeNode", "prev", "Ljava/util/HashMap$TreeNode;", false)
  | _ => ("java/util/HashMap$TreeNode", "red", "Z", false)
def tyJ40 : Nat → FieldType := fun k => match k with
  | 0 => .object "java/util/LinkedHashMap$Entry"
  | 1 => .object "java/util/LinkedHashMap$Entry"
  | 2 => .int
  | 3 => .object "java/lang/Object"
  | 4 => .object "java/lang/Object"
  | 5 => .object "java/util/HashMap$Node"
  | 6 => .object "java/util/HashMap$TreeNode"
  | 7 => .object "java/util/HashMap$TreeNode"
  | 8 => .object "java/util/HashMap$TreeNode"
  | 9 => .object "java/util/HashMap$TreeNode"
  | _ => .boolean
abbrev wsJ400 : List Cond := u_ws RJ40 TJ40 11
theorem nmJ40 : ∀ a, a < 11 → ∀ b, b < 11 → a ≠ b → (TJ40 a).2.1 ≠ (TJ40 b).2.1 := by decide +kernel
theorem tyJ40_ok : ∀ k, k < 11 → parseFieldDescriptor (TJ40 k).2.2.1 = some (tyJ40 k) := by decide +kernel
abbrev cJ40_getTreeNode : ByteArray := prog_70_method_5_code
def yJ40_getTreeNode : MethodName := ⟨RJ40, "getTreeNode", "(ILjava/lang/Object;)Ljava/util/HashMap$TreeNode;"⟩
def dkwJ40_getTreeNode_0 : List UInt8 := [42, 180, 0, 9, 198, 0, 10, 42, 182, 0, 67, 167, 0, 4, 42, 27, 44, 1, 182, 0, 63, 176]
abbrev dktJ40_getTreeNode_0 : List UInt8 := dkwJ40_getTreeNode_0 ++ []
theorem dksJ40_getTreeNode_0 : cJ40_getTreeNode.data.toList.drop 0 = dktJ40_getTreeNode_0 := by decide +kernel
theorem dJ40_getTreeNode_0 : decode cJ40_getTreeNode 0 = .ok (.aload_n 0, 1) := dk_42 (dk_at dksJ40_getTreeNode_0 0 rfl rfl)
theorem dJ40_getTreeNode_1 : decode cJ40_getTreeNode 1 = .ok (.getfield 9, 3) := dk_180 0 9 (dk_at dksJ40_getTreeNode_0 1 rfl rfl)
theorem dJ40_getTreeNode_4 : decode cJ40_getTreeNode 4 = .ok (.ifnull 10, 3) := dk_198 0 10 (dk_at dksJ40_getTreeNode_0 4 rfl rfl)
theorem dJ40_getTreeNode_7 : decode cJ40_getTreeNode 7 = .ok (.aload_n 0, 1) := dk_42 (dk_at dksJ40_getTreeNode_0 7 rfl rfl)
theorem dJ40_getTreeNode_8 : decode cJ40_getTreeNode 8 = .ok (.invokevirtual 67, 3) := dk_182 0 67 (dk_at dksJ40_getTreeNode_0 8 rfl rfl)
theorem dJ40_getTreeNode_11 : decode cJ40_getTreeNode 11 = .ok (.goto 4, 3) := dk_167 0 4 (dk_at dksJ40_getTreeNode_0 11 rfl rfl)
theorem dJ40_getTreeNode_14 : decode cJ40_getTreeNode 14 = .ok (.aload_n 0, 1) := dk_42 (dk_at dksJ40_getTreeNode_0 14 rfl rfl)
theorem dJ40_getTreeNode_15 : decode cJ40_getTreeNode 15 = .ok (.iload_n 1, 1) := dk_27 (dk_at dksJ40_getTreeNode_0 15 rfl rfl)
theorem dJ40_getTreeNode_16 : decode cJ40_getTreeNode 16 = .ok (.aload_n 2, 1) := dk_44 (dk_at dksJ40_getTreeNode_0 16 rfl rfl)
theorem dJ40_getTreeNode_17 : decode cJ40_getTreeNode 17 = .ok (.aconst_null, 1) := dk_1 (dk_at dksJ40_getTreeNode_0 17 rfl rfl)
theorem dJ40_getTreeNode_18 : decode cJ40_getTreeNode 18 = .ok (.invokevirtual 63, 3) := dk_182 0 63 (dk_at dksJ40_getTreeNode_0 18 rfl rfl)
theorem dJ40_getTreeNode_21 : decode cJ40_getTreeNode 21 = .ok (.areturn, 1) := dk_176 (dk_at dksJ40_getTreeNode_0 21 rfl rfl)
abbrev cJ40_root : ByteArray := prog_70_method_2_code
def yJ40_root : MethodName := ⟨RJ40, "root", "()Ljava/util/HashMap$TreeNode;"⟩
def dkwJ40_root_0 : List UInt8 := [42, 76, 43, 180, 0, 9, 89, 77, 199, 0, 5, 43, 176, 44, 76, 167, 255, 243]
abbrev dktJ40_root_0 : List UInt8 := dkwJ40_root_0 ++ []
theorem dksJ40_root_0 : cJ40_root.data.toList.drop 0 = dktJ40_root_0 := by decide +kernel
theorem dJ40_root_0 : decode cJ40_root 0 = .ok (.aload_n 0, 1) := dk_42 (dk_at dksJ40_root_0 0 rfl rfl)
theorem dJ40_root_1 : decode cJ40_root 1 = .ok (.astore_n 1, 1) := dk_76 (dk_at dksJ40_root_0 1 rfl rfl)
theorem dJ40_root_2 : decode cJ40_root 2 = .ok (.aload_n 1, 1) := dk_43 (dk_at dksJ40_root_0 2 rfl rfl)
theorem dJ40_root_3 : decode cJ40_root 3 = .ok (.getfield 9, 3) := dk_180 0 9 (dk_at dksJ40_root_0 3 rfl rfl)
theorem dJ40_root_6 : decode cJ40_root 6 = .ok (.dup, 1) := dk_89 (dk_at dksJ40_root_0 6 rfl rfl)
theorem dJ40_root_7 : decode cJ40_root 7 = .ok (.astore_n 2, 1) := dk_77 (dk_at dksJ40_root_0 7 rfl rfl)
theorem dJ40_root_8 : decode cJ40_root 8 = .ok (.ifnonnull 5, 3) := dk_199 0 5 (dk_at dksJ40_root_0 8 rfl rfl)
theorem dJ40_root_11 : decode cJ40_root 11 = .ok (.aload_n 1, 1) := dk_43 (dk_at dksJ40_root_0 11 rfl rfl)
theorem dJ40_root_12 : decode cJ40_root 12 = .ok (.areturn, 1) := dk_176 (dk_at dksJ40_root_0 12 rfl rfl)
theorem dJ40_root_13 : decode cJ40_root 13 = .ok (.aload_n 2, 1) := dk_44 (dk_at dksJ40_root_0 13 rfl rfl)
theorem dJ40_root_14 : decode cJ40_root 14 = .ok (.astore_n 1, 1) := dk_76 (dk_at dksJ40_root_0 14 rfl rfl)
theorem dJ40_root_15 : decode cJ40_root 15 = .ok (.goto (-13), 3) := dk_167 255 243 (dk_at dksJ40_root_0 15 rfl rfl)
abbrev cJ40_find : ByteArray := prog_70_method_4_code
def yJ40_find : MethodName := ⟨RJ40, "find", "(ILjava/lang/Object;Ljava/lang/Class;)Ljava/util/HashMap$TreeNode;"⟩
def dkwJ40_find_7 : List UInt8 := [58, 4, 25, 4, 199, 255, 92, 1, 176]
abbrev dktJ40_find_7 : List UInt8 := dkwJ40_find_7 ++ []
def dkwJ40_find_6 : List UInt8 := [58, 4, 167, 0, 24, 25, 9, 27, 44, 45, 182, 0, 63, 89, 58, 10, 198, 0, 6, 25, 10, 176, 25, 8]
abbrev dktJ40_find_6 : List UInt8 := dkwJ40_find_6 ++ dktJ40_find_7
def dkwJ40_find_5 : List UInt8 := [44, 25, 7, 184, 0, 59, 89, 54, 6, 153, 0, 20, 21, 6, 156, 0, 8, 25, 8, 167, 0, 5, 25, 9]
abbrev dktJ40_find_5 : List UInt8 := dkwJ40_find_5 ++ dktJ40_find_6
def dkwJ40_find_4 : List UInt8 := [199, 0, 10, 25, 8, 58, 4, 167, 0, 67, 45, 199, 0, 12, 44, 184, 0, 55, 89, 78, 198, 0, 33, 45]
abbrev dktJ40_find_4 : List UInt8 := dkwJ40_find_4 ++ dktJ40_find_5
def dkwJ40_find_3 : List UInt8 := [182, 0, 49, 153, 0, 6, 25, 4, 176, 25, 8, 199, 0, 10, 25, 9, 58, 4, 167, 0, 79, 25, 9]
abbrev dktJ40_find_3 : List UInt8 := dkwJ40_find_3 ++ dktJ40_find_4
def dkwJ40_find_2 : List UInt8 := [167, 0, 119, 25, 4, 180, 0, 45, 89, 58, 7, 44, 165, 0, 16, 44, 198, 0, 15, 44, 25, 7]
abbrev dktJ40_find_2 : List UInt8 := dkwJ40_find_2 ++ dktJ40_find_3
def dkwJ40_find_1 : List UInt8 := [54, 5, 27, 164, 0, 10, 25, 8, 58, 4, 167, 0, 132, 21, 5, 27, 162, 0, 10, 25, 9, 58, 4]
abbrev dktJ40_find_1 : List UInt8 := dkwJ40_find_1 ++ dktJ40_find_2
def dkwJ40_find_0 : List UInt8 := [42, 58, 4, 25, 4, 180, 0, 39, 58, 8, 25, 4, 180, 0, 42, 58, 9, 25, 4, 180, 0, 15, 89]
abbrev dktJ40_find_0 : List UInt8 := dkwJ40_find_0 ++ dktJ40_find_1
theorem dksJ40_find_0 : cJ40_find.data.toList.drop 0 = dktJ40_find_0 := by decide +kernel
theorem dksJ40_find_1 : cJ40_find.data.toList.drop 23 = dktJ40_find_1 := dk_seg dksJ40_find_0 23 rfl rfl
theorem dksJ40_find_2 : cJ40_find.data.toList.drop 46 = dktJ40_find_2 := dk_seg dksJ40_find_1 23 rfl rfl
theorem dksJ40_find_3 : cJ40_find.data.toList.drop 68 = dktJ40_find_3 := dk_seg dksJ40_find_2 22 rfl rfl
theorem dksJ40_find_4 : cJ40_find.data.toList.drop 91 = dktJ40_find_4 := dk_seg dksJ40_find_3 23 rfl rfl
theorem dksJ40_find_5 : cJ40_find.data.toList.drop 115 = dktJ40_find_5 := dk_seg dksJ40_find_4 24 rfl rfl
theorem dksJ40_find_6 : cJ40_find.data.toList.drop 139 = dktJ40_find_6 := dk_seg dksJ40_find_5 24 rfl rfl
theorem dksJ40_find_7 : cJ40_find.data.toList.drop 163 = dktJ40_find_7 := dk_seg dksJ40_find_6 24 rfl rfl
theorem dJ40_find_0 : decode cJ40_find 0 = .ok (.aload_n 0, 1) := dk_42 (dk_at dksJ40_find_0 0 rfl rfl)
theorem dJ40_find_1 : decode cJ40_find 1 = .ok (.astore 4, 2) := dk_58 4 (dk_at dksJ40_find_0 1 rfl rfl)
theorem dJ40_find_3 : decode cJ40_find 3 = .ok (.aload 4, 2) := dk_25 4 (dk_at dksJ40_find_0 3 rfl rfl)
theorem dJ40_find_5 : decode cJ40_find 5 = .ok (.getfield 39, 3) := dk_180 0 39 (dk_at dksJ40_find_0 5 rfl rfl)
theorem dJ40_find_8 : decode cJ40_find 8 = .ok (.astore 8, 2) := dk_58 8 (dk_at dksJ40_find_0 8 rfl rfl)
theorem dJ40_find_10 : decode cJ40_find 10 = .ok (.aload 4, 2) := dk_25 4 (dk_at dksJ40_find_0 10 rfl rfl)
theorem dJ40_find_12 : decode cJ40_find 12 = .ok (.getfield 42, 3) := dk_180 0 42 (dk_at dksJ40_find_0 12 rfl rfl)
theorem dJ40_find_15 : decode cJ40_find 15 = .ok (.astore 9, 2) := dk_58 9 (dk_at dksJ40_find_0 15 rfl rfl)
theorem dJ40_find_17 : decode cJ40_find 17 = .ok (.aload 4, 2) := dk_25 4 (dk_at dksJ40_find_0 17 rfl rfl)
theorem dJ40_find_19 : decode cJ40_find 19 = .ok (.getfield 15, 3) := dk_180 0 15 (dk_at dksJ40_find_0 19 rfl rfl)
theorem dJ40_find_22 : decode cJ40_find 22 = .ok (.dup, 1) := dk_89 (dk_at dksJ40_find_0 22 rfl rfl)
theorem dJ40_find_23 : decode cJ40_find 23 = .ok (.istore 5, 2) := dk_54 5 (dk_at dksJ40_find_1 0 rfl rfl)
theorem dJ40_find_25 : decode cJ40_find 25 = .ok (.iload_n 1, 1) := dk_27 (dk_at dksJ40_find_1 2 rfl rfl)
theorem dJ40_find_26 : decode cJ40_find 26 = .ok (.if_icmp .le 10, 3) := dk_164 0 10 (dk_at dksJ40_find_1 3 rfl rfl)
theorem dJ40_find_29 : decode cJ40_find 29 = .ok (.aload 8, 2) := dk_25 8 (dk_at dksJ40_find_1 6 rfl rfl)
theorem dJ40_find_31 : decode cJ40_find 31 = .ok (.astore 4, 2) := dk_58 4 (dk_at dksJ40_find_1 8 rfl rfl)
theorem dJ40_find_33 : decode cJ40_find 33 = .ok (.goto 132, 3) := dk_167 0 132 (dk_at dksJ40_find_1 10 rfl rfl)
theorem dJ40_find_36 : decode cJ40_find 36 = .ok (.iload 5, 2) := dk_21 5 (dk_at dksJ40_find_1 13 rfl rfl)
theorem dJ40_find_38 : decode cJ40_find 38 = .ok (.iload_n 1, 1) := dk_27 (dk_at dksJ40_find_1 15 rfl rfl)
theorem dJ40_find_39 : decode cJ40_find 39 = .ok (.if_icmp .ge 10, 3) := dk_162 0 10 (dk_at dksJ40_find_1 16 rfl rfl)
theorem dJ40_find_42 : decode cJ40_find 42 = .ok (.aload 9, 2) := dk_25 9 (dk_at dksJ40_find_1 19 rfl rfl)
theorem dJ40_find_44 : decode cJ40_find 44 = .ok (.astore 4, 2) := dk_58 4 (dk_at dksJ40_find_1 21 rfl rfl)
theorem dJ40_find_46 : decode cJ40_find 46 = .ok (.goto 119, 3) := dk_167 0 119 (dk_at dksJ40_find_2 0 rfl rfl)
theorem dJ40_find_49 : decode cJ40_find 49 = .ok (.aload 4, 2) := dk_25 4 (dk_at dksJ40_find_2 3 rfl rfl)
theorem dJ40_find_51 : decode cJ40_find 51 = .ok (.getfield 45, 3) := dk_180 0 45 (dk_at dksJ40_find_2 5 rfl rfl)
theorem dJ40_find_54 : decode cJ40_find 54 = .ok (.dup, 1) := dk_89 (dk_at dksJ40_find_2 8 rfl rfl)
theorem dJ40_find_55 : decode cJ40_find 55 = .ok (.astore 7, 2) := dk_58 7 (dk_at dksJ40_find_2 9 rfl rfl)
theorem dJ40_find_57 : decode cJ40_find 57 = .ok (.aload_n 2, 1) := dk_44 (dk_at dksJ40_find_2 11 rfl rfl)
theorem dJ40_find_58 : decode cJ40_find 58 = .ok (.if_acmp .eq 16, 3) := dk_165 0 16 (dk_at dksJ40_find_2 12 rfl rfl)
theorem dJ40_find_61 : decode cJ40_find 61 = .ok (.aload_n 2, 1) := dk_44 (dk_at dksJ40_find_2 15 rfl rfl)
theorem dJ40_find_62 : decode cJ40_find 62 = .ok (.ifnull 15, 3) := dk_198 0 15 (dk_at dksJ40_find_2 16 rfl rfl)
theorem dJ40_find_65 : decode cJ40_find 65 = .ok (.aload_n 2, 1) := dk_44 (dk_at dksJ40_find_2 19 rfl rfl)
theorem dJ40_find_66 : decode cJ40_find 66 = .ok (.aload 7, 2) := dk_25 7 (dk_at dksJ40_find_2 20 rfl rfl)
theorem dJ40_find_68 : decode cJ40_find 68 = .ok (.invokevirtual 49, 3) := dk_182 0 49 (dk_at dksJ40_find_3 0 rfl rfl)
theorem dJ40_find_71 : decode cJ40_find 71 = .ok (.ifCond .eq 6, 3) := dk_153 0 6 (dk_at dksJ40_find_3 3 rfl rfl)
theorem dJ40_find_74 : decode cJ40_find 74 = .ok (.aload 4, 2) := dk_25 4 (dk_at dksJ40_find_3 6 rfl rfl)
theorem dJ40_find_76 : decode cJ40_find 76 = .ok (.areturn, 1) := dk_176 (dk_at dksJ40_find_3 8 rfl rfl)
theorem dJ40_find_77 : decode cJ40_find 77 = .ok (.aload 8, 2) := dk_25 8 (dk_at dksJ40_find_3 9 rfl rfl)
theorem dJ40_find_79 : decode cJ40_find 79 = .ok (.ifnonnull 10, 3) := dk_199 0 10 (dk_at dksJ40_find_3 11 rfl rfl)
theorem dJ40_find_82 : decode cJ40_find 82 = .ok (.aload 9, 2) := dk_25 9 (dk_at dksJ40_find_3 14 rfl rfl)
theorem dJ40_find_84 : decode cJ40_find 84 = .ok (.astore 4, 2) := dk_58 4 (dk_at dksJ40_find_3 16 rfl rfl)
theorem dJ40_find_86 : decode cJ40_find 86 = .ok (.goto 79, 3) := dk_167 0 79 (dk_at dksJ40_find_3 18 rfl rfl)
theorem dJ40_find_89 : decode cJ40_find 89 = .ok (.aload 9, 2) := dk_25 9 (dk_at dksJ40_find_3 21 rfl rfl)
theorem dJ40_find_91 : decode cJ40_find 91 = .ok (.ifnonnull 10, 3) := dk_199 0 10 (dk_at dksJ40_find_4 0 rfl rfl)
theorem dJ40_find_94 : decode cJ40_find 94 = .ok (.aload 8, 2) := dk_25 8 (dk_at dksJ40_find_4 3 rfl rfl)
theorem dJ40_find_96 : decode cJ40_find 96 = .ok (.astore 4, 2) := dk_58 4 (dk_at dksJ40_find_4 5 rfl rfl)
theorem dJ40_find_98 : decode cJ40_find 98 = .ok (.goto 67, 3) := dk_167 0 67 (dk_at dksJ40_find_4 7 rfl rfl)
theorem dJ40_find_101 : decode cJ40_find 101 = .ok (.aload_n 3, 1) := dk_45 (dk_at dksJ40_find_4 10 rfl rfl)
theorem dJ40_find_102 : decode cJ40_find 102 = .ok (.ifnonnull 12, 3) := dk_199 0 12 (dk_at dksJ40_find_4 11 rfl rfl)
theorem dJ40_find_105 : decode cJ40_find 105 = .ok (.aload_n 2, 1) := dk_44 (dk_at dksJ40_find_4 14 rfl rfl)
theorem dJ40_find_106 : decode cJ40_find 106 = .ok (.invokestatic 55, 3) := dk_184 0 55 (dk_at dksJ40_find_4 15 rfl rfl)
theorem dJ40_find_109 : decode cJ40_find 109 = .ok (.dup, 1) := dk_89 (dk_at dksJ40_find_4 18 rfl rfl)
theorem dJ40_find_110 : decode cJ40_find 110 = .ok (.astore_n 3, 1) := dk_78 (dk_at dksJ40_find_4 19 rfl rfl)
theorem dJ40_find_111 : decode cJ40_find 111 = .ok (.ifnull 33, 3) := dk_198 0 33 (dk_at dksJ40_find_4 20 rfl rfl)
theorem dJ40_find_114 : decode cJ40_find 114 = .ok (.aload_n 3, 1) := dk_45 (dk_at dksJ40_find_4 23 rfl rfl)
theorem dJ40_find_115 : decode cJ40_find 115 = .ok (.aload_n 2, 1) := dk_44 (dk_at dksJ40_find_5 0 rfl rfl)
theorem dJ40_find_116 : decode cJ40_find 116 = .ok (.aload 7, 2) := dk_25 7 (dk_at dksJ40_find_5 1 rfl rfl)
theorem dJ40_find_118 : decode cJ40_find 118 = .ok (.invokestatic 59, 3) := dk_184 0 59 (dk_at dksJ40_find_5 3 rfl rfl)
theorem dJ40_find_121 : decode cJ40_find 121 = .ok (.dup, 1) := dk_89 (dk_at dksJ40_find_5 6 rfl rfl)
theorem dJ40_find_122 : decode cJ40_find 122 = .ok (.istore 6, 2) := dk_54 6 (dk_at dksJ40_find_5 7 rfl rfl)
theorem dJ40_find_124 : decode cJ40_find 124 = .ok (.ifCond .eq 20, 3) := dk_153 0 20 (dk_at dksJ40_find_5 9 rfl rfl)
theorem dJ40_find_127 : decode cJ40_find 127 = .ok (.iload 6, 2) := dk_21 6 (dk_at dksJ40_find_5 12 rfl rfl)
theorem dJ40_find_129 : decode cJ40_find 129 = .ok (.ifCond .ge 8, 3) := dk_156 0 8 (dk_at dksJ40_find_5 14 rfl rfl)
theorem dJ40_find_132 : decode cJ40_find 132 = .ok (.aload 8, 2) := dk_25 8 (dk_at dksJ40_find_5 17 rfl rfl)
theorem dJ40_find_134 : decode cJ40_find 134 = .ok (.goto 5, 3) := dk_167 0 5 (dk_at dksJ40_find_5 19 rfl rfl)
theorem dJ40_find_137 : decode cJ40_find 137 = .ok (.aload 9, 2) := dk_25 9 (dk_at dksJ40_find_5 22 rfl rfl)
theorem dJ40_find_139 : decode cJ40_find 139 = .ok (.astore 4, 2) := dk_58 4 (dk_at dksJ40_find_6 0 rfl rfl)
theorem dJ40_find_141 : decode cJ40_find 141 = .ok (.goto 24, 3) := dk_167 0 24 (dk_at dksJ40_find_6 2 rfl rfl)
theorem dJ40_find_144 : decode cJ40_find 144 = .ok (.aload 9, 2) := dk_25 9 (dk_at dksJ40_find_6 5 rfl rfl)
theorem dJ40_find_146 : decode cJ40_find 146 = .ok (.iload_n 1, 1) := dk_27 (dk_at dksJ40_find_6 7 rfl rfl)
theorem dJ40_find_147 : decode cJ40_find 147 = .ok (.aload_n 2, 1) := dk_44 (dk_at dksJ40_find_6 8 rfl rfl)
theorem dJ40_find_148 : decode cJ40_find 148 = .ok (.aload_n 3, 1) := dk_45 (dk_at dksJ40_find_6 9 rfl rfl)
theorem dJ40_find_149 : decode cJ40_find 149 = .ok (.invokevirtual 63, 3) := dk_182 0 63 (dk_at dksJ40_find_6 10 rfl rfl)
theorem dJ40_find_152 : decode cJ40_find 152 = .ok (.dup, 1) := dk_89 (dk_at dksJ40_find_6 13 rfl rfl)
theorem dJ40_find_153 : decode cJ40_find 153 = .ok (.astore 10, 2) := dk_58 10 (dk_at dksJ40_find_6 14 rfl rfl)
theorem dJ40_find_155 : decode cJ40_find 155 = .ok (.ifnull 6, 3) := dk_198 0 6 (dk_at dksJ40_find_6 16 rfl rfl)
theorem dJ40_find_158 : decode cJ40_find 158 = .ok (.aload 10, 2) := dk_25 10 (dk_at dksJ40_find_6 19 rfl rfl)
theorem dJ40_find_160 : decode cJ40_find 160 = .ok (.areturn, 1) := dk_176 (dk_at dksJ40_find_6 21 rfl rfl)
theorem dJ40_find_161 : decode cJ40_find 161 = .ok (.aload 8, 2) := dk_25 8 (dk_at dksJ40_find_6 22 rfl rfl)
theorem dJ40_find_163 : decode cJ40_find 163 = .ok (.astore 4, 2) := dk_58 4 (dk_at dksJ40_find_7 0 rfl rfl)
theorem dJ40_find_165 : decode cJ40_find 165 = .ok (.aload 4, 2) := dk_25 4 (dk_at dksJ40_find_7 2 rfl rfl)
theorem dJ40_find_167 : decode cJ40_find 167 = .ok (.ifnonnull (-164), 3) := dk_199 255 92 (dk_at dksJ40_find_7 4 rfl rfl)
theorem dJ40_find_170 : decode cJ40_find 170 = .ok (.aconst_null, 1) := dk_1 (dk_at dksJ40_find_7 7 rfl rfl)
theorem dJ40_find_171 : decode cJ40_find 171 = .ok (.areturn, 1) := dk_176 (dk_at dksJ40_find_7 8 rfl rfl)
abbrev cJ40_split : ByteArray := prog_70_method_11_code
def yJ40_split : MethodName := ⟨RJ40, "split", "(Ljava/util/HashMap;[Ljava/util/HashMap$Node;II)V"⟩
def dkwJ40_split_9 : List UInt8 := [198, 0, 9, 25, 8, 44, 182, 0, 126, 177]
abbrev dktJ40_split_9 : List UInt8 := dkwJ40_split_9 ++ []
def dkwJ40_split_8 : List UInt8 := [21, 4, 96, 25, 8, 43, 182, 0, 119, 83, 167, 0, 22, 44, 29, 21, 4, 96, 25, 8, 83, 25, 6]
abbrev dktJ40_split_8 : List UInt8 := dkwJ40_split_8 ++ dktJ40_split_9
def dkwJ40_split_7 : List UInt8 := [198, 0, 9, 25, 6, 44, 182, 0, 126, 25, 8, 198, 0, 44, 21, 11, 16, 6, 163, 0, 18, 44, 29]
abbrev dktJ40_split_7 : List UInt8 := dkwJ40_split_7 ++ dktJ40_split_8
def dkwJ40_split_6 : List UInt8 := [163, 0, 15, 44, 29, 25, 6, 43, 182, 0, 119, 83, 167, 0, 19, 44, 29, 25, 6, 83, 25, 8]
abbrev dktJ40_split_6 : List UInt8 := dkwJ40_split_6 ++ dktJ40_split_7
def dkwJ40_split_5 : List UInt8 := [25, 12, 58, 9, 132, 11, 1, 25, 13, 58, 12, 167, 255, 153, 25, 6, 198, 0, 38, 21, 10, 16, 6]
abbrev dktJ40_split_5 : List UInt8 := dkwJ40_split_5 ++ dktJ40_split_6
def dkwJ40_split_4 : List UInt8 := [25, 9, 90, 181, 0, 19, 199, 0, 10, 25, 12, 58, 8, 167, 0, 10, 25, 9, 25, 12, 181, 0, 22]
abbrev dktJ40_split_4 : List UInt8 := dkwJ40_split_4 ++ dktJ40_split_5
def dkwJ40_split_3 : List UInt8 := [58, 6, 167, 0, 10, 25, 7, 25, 12, 181, 0, 22, 25, 12, 58, 7, 132, 10, 1, 167, 0, 35, 25, 12]
abbrev dktJ40_split_3 : List UInt8 := dkwJ40_split_3 ++ dktJ40_split_4
def dkwJ40_split_2 : List UInt8 := [25, 12, 180, 0, 15, 21, 4, 126, 154, 0, 38, 25, 12, 25, 7, 90, 181, 0, 19, 199, 0, 10, 25, 12]
abbrev dktJ40_split_2 : List UInt8 := dkwJ40_split_2 ++ dktJ40_split_3
def dkwJ40_split_1 : List UInt8 := [58, 12, 25, 12, 198, 0, 104, 25, 12, 180, 0, 22, 192, 0, 10, 58, 13, 25, 12, 1, 181, 0, 22]
abbrev dktJ40_split_1 : List UInt8 := dkwJ40_split_1 ++ dktJ40_split_2
def dkwJ40_split_0 : List UInt8 := [42, 58, 5, 1, 58, 6, 1, 58, 7, 1, 58, 8, 1, 58, 9, 3, 54, 10, 3, 54, 11, 25, 5]
abbrev dktJ40_split_0 : List UInt8 := dkwJ40_split_0 ++ dktJ40_split_1
theorem dksJ40_split_0 : cJ40_split.data.toList.drop 0 = dktJ40_split_0 := by decide +kernel
theorem dksJ40_split_1 : cJ40_split.data.toList.drop 23 = dktJ40_split_1 := dk_seg dksJ40_split_0 23 rfl rfl
theorem dksJ40_split_2 : cJ40_split.data.toList.drop 46 = dktJ40_split_2 := dk_seg dksJ40_split_1 23 rfl rfl
theorem dksJ40_split_3 : cJ40_split.data.toList.drop 70 = dktJ40_split_3 := dk_seg dksJ40_split_2 24 rfl rfl
theorem dksJ40_split_4 : cJ40_split.data.toList.drop 94 = dktJ40_split_4 := dk_seg dksJ40_split_3 24 rfl rfl
theorem dksJ40_split_5 : cJ40_split.data.toList.drop 117 = dktJ40_split_5 := dk_seg dksJ40_split_4 23 rfl rfl
theorem dksJ40_split_6 : cJ40_split.data.toList.drop 140 = dktJ40_split_6 := dk_seg dksJ40_split_5 23 rfl rfl
theorem dksJ40_split_7 : cJ40_split.data.toList.drop 162 = dktJ40_split_7 := dk_seg dksJ40_split_6 22 rfl rfl
theorem dksJ40_split_8 : cJ40_split.data.toList.drop 185 = dktJ40_split_8 := dk_seg dksJ40_split_7 23 rfl rfl
theorem dksJ40_split_9 : cJ40_split.data.toList.drop 208 = dktJ40_split_9 := dk_seg dksJ40_split_8 23 rfl rfl
theorem dJ40_split_0 : decode cJ40_split 0 = .ok (.aload_n 0, 1) := dk_42 (dk_at dksJ40_split_0 0 rfl rfl)
theorem dJ40_split_1 : decode cJ40_split 1 = .ok (.astore 5, 2) := dk_58 5 (dk_at dksJ40_split_0 1 rfl rfl)
theorem dJ40_split_3 : decode cJ40_split 3 = .ok (.aconst_null, 1) := dk_1 (dk_at dksJ40_split_0 3 rfl rfl)
theorem dJ40_split_4 : decode cJ40_split 4 = .ok (.astore 6, 2) := dk_58 6 (dk_at dksJ40_split_0 4 rfl rfl)
theorem dJ40_split_6 : decode cJ40_split 6 = .ok (.aconst_null, 1) := dk_1 (dk_at dksJ40_split_0 6 rfl rfl)
theorem dJ40_split_7 : decode cJ40_split 7 = .ok (.astore 7, 2) := dk_58 7 (dk_at dksJ40_split_0 7 rfl rfl)
theorem dJ40_split_9 : decode cJ40_split 9 = .ok (.aconst_null, 1) := dk_1 (dk_at dksJ40_split_0 9 rfl rfl)
theorem dJ40_split_10 : decode cJ40_split 10 = .ok (.astore 8, 2) := dk_58 8 (dk_at dksJ40_split_0 10 rfl rfl)
theorem dJ40_split_12 : decode cJ40_split 12 = .ok (.aconst_null, 1) := dk_1 (dk_at dksJ40_split_0 12 rfl rfl)
theorem dJ40_split_13 : decode cJ40_split 13 = .ok (.astore 9, 2) := dk_58 9 (dk_at dksJ40_split_0 13 rfl rfl)
theorem dJ40_split_15 : decode cJ40_split 15 = .ok (.iconst 0, 1) := dk_3 (dk_at dksJ40_split_0 15 rfl rfl)
theorem dJ40_split_16 : decode cJ40_split 16 = .ok (.istore 10, 2) := dk_54 10 (dk_at dksJ40_split_0 16 rfl rfl)
theorem dJ40_split_18 : decode cJ40_split 18 = .ok (.iconst 0, 1) := dk_3 (dk_at dksJ40_split_0 18 rfl rfl)
theorem dJ40_split_19 : decode cJ40_split 19 = .ok (.istore 11, 2) := dk_54 11 (dk_at dksJ40_split_0 19 rfl rfl)
theorem dJ40_split_21 : decode cJ40_split 21 = .ok (.aload 5, 2) := dk_25 5 (dk_at dksJ40_split_0 21 rfl rfl)
theorem dJ40_split_23 : decode cJ40_split 23 = .ok (.astore 12, 2) := dk_58 12 (dk_at dksJ40_split_1 0 rfl rfl)
theorem dJ40_split_25 : decode cJ40_split 25 = .ok (.aload 12, 2) := dk_25 12 (dk_at dksJ40_split_1 2 rfl rfl)
theorem dJ40_split_27 : decode cJ40_split 27 = .ok (.ifnull 104, 3) := dk_198 0 104 (dk_at dksJ40_split_1 4 rfl rfl)
theorem dJ40_split_30 : decode cJ40_split 30 = .ok (.aload 12, 2) := dk_25 12 (dk_at dksJ40_split_1 7 rfl rfl)
theorem dJ40_split_32 : decode cJ40_split 32 = .ok (.getfield 22, 3) := dk_180 0 22 (dk_at dksJ40_split_1 9 rfl rfl)
theorem dJ40_split_35 : decode cJ40_split 35 = .ok (.checkcast 10, 3) := dk_192 0 10 (dk_at dksJ40_split_1 12 rfl rfl)
theorem dJ40_split_38 : decode cJ40_split 38 = .ok (.astore 13, 2) := dk_58 13 (dk_at dksJ40_split_1 15 rfl rfl)
theorem dJ40_split_40 : decode cJ40_split 40 = .ok (.aload 12, 2) := dk_25 12 (dk_at dksJ40_split_1 17 rfl rfl)
theorem dJ40_split_42 : decode cJ40_split 42 = .ok (.aconst_null, 1) := dk_1 (dk_at dksJ40_split_1 19 rfl rfl)
theorem dJ40_split_43 : decode cJ40_split 43 = .ok (.putfield 22, 3) := dk_181 0 22 (dk_at dksJ40_split_1 20 rfl rfl)
theorem dJ40_split_46 : decode cJ40_split 46 = .ok (.aload 12, 2) := dk_25 12 (dk_at dksJ40_split_2 0 rfl rfl)
theorem dJ40_split_48 : decode cJ40_split 48 = .ok (.getfield 15, 3) := dk_180 0 15 (dk_at dksJ40_split_2 2 rfl rfl)
theorem dJ40_split_51 : decode cJ40_split 51 = .ok (.iload 4, 2) := dk_21 4 (dk_at dksJ40_split_2 5 rfl rfl)
theorem dJ40_split_53 : decode cJ40_split 53 = .ok (.iand, 1) := dk_126 (dk_at dksJ40_split_2 7 rfl rfl)
theorem dJ40_split_54 : decode cJ40_split 54 = .ok (.ifCond .ne 38, 3) := dk_154 0 38 (dk_at dksJ40_split_2 8 rfl rfl)
theorem dJ40_split_57 : decode cJ40_split 57 = .ok (.aload 12, 2) := dk_25 12 (dk_at dksJ40_split_2 11 rfl rfl)
theorem dJ40_split_59 : decode cJ40_split 59 = .ok (.aload 7, 2) := dk_25 7 (dk_at dksJ40_split_2 13 rfl rfl)
theorem dJ40_split_61 : decode cJ40_split 61 = .ok (.dup_x1, 1) := dk_90 (dk_at dksJ40_split_2 15 rfl rfl)
theorem dJ40_split_62 : decode cJ40_split 62 = .ok (.putfield 19, 3) := dk_181 0 19 (dk_at dksJ40_split_2 16 rfl rfl)
theorem dJ40_split_65 : decode cJ40_split 65 = .ok (.ifnonnull 10, 3) := dk_199 0 10 (dk_at dksJ40_split_2 19 rfl rfl)
theorem dJ40_split_68 : decode cJ40_split 68 = .ok (.aload 12, 2) := dk_25 12 (dk_at dksJ40_split_2 22 rfl rfl)
theorem dJ40_split_70 : decode cJ40_split 70 = .ok (.astore 6, 2) := dk_58 6 (dk_at dksJ40_split_3 0 rfl rfl)
theorem dJ40_split_72 : decode cJ40_split 72 = .ok (.goto 10, 3) := dk_167 0 10 (dk_at dksJ40_split_3 2 rfl rfl)
theorem dJ40_split_75 : decode cJ40_split 75 = .ok (.aload 7, 2) := dk_25 7 (dk_at dksJ40_split_3 5 rfl rfl)
theorem dJ40_split_77 : decode cJ40_split 77 = .ok (.aload 12, 2) := dk_25 12 (dk_at dksJ40_split_3 7 rfl rfl)
theorem dJ40_split_79 : decode cJ40_split 79 = .ok (.putfield 22, 3) := dk_181 0 22 (dk_at dksJ40_split_3 9 rfl rfl)
theorem dJ40_split_82 : decode cJ40_split 82 = .ok (.aload 12, 2) := dk_25 12 (dk_at dksJ40_split_3 12 rfl rfl)
theorem dJ40_split_84 : decode cJ40_split 84 = .ok (.astore 7, 2) := dk_58 7 (dk_at dksJ40_split_3 14 rfl rfl)
theorem dJ40_split_86 : decode cJ40_split 86 = .ok (.iinc 10 1, 3) := dk_132 10 1 (dk_at dksJ40_split_3 16 rfl rfl)
theorem dJ40_split_89 : decode cJ40_split 89 = .ok (.goto 35, 3) := dk_167 0 35 (dk_at dksJ40_split_3 19 rfl rfl)
theorem dJ40_split_92 : decode cJ40_split 92 = .ok (.aload 12, 2) := dk_25 12 (dk_at dksJ40_split_3 22 rfl rfl)
theorem dJ40_split_94 : decode cJ40_split 94 = .ok (.aload 9, 2) := dk_25 9 (dk_at dksJ40_split_4 0 rfl rfl)
theorem dJ40_split_96 : decode cJ40_split 96 = .ok (.dup_x1, 1) := dk_90 (dk_at dksJ40_split_4 2 rfl rfl)
theorem dJ40_split_97 : decode cJ40_split 97 = .ok (.putfield 19, 3) := dk_181 0 19 (dk_at dksJ40_split_4 3 rfl rfl)
theorem dJ40_split_100 : decode cJ40_split 100 = .ok (.ifnonnull 10, 3) := dk_199 0 10 (dk_at dksJ40_split_4 6 rfl rfl)
theorem dJ40_split_103 : decode cJ40_split 103 = .ok (.aload 12, 2) := dk_25 12 (dk_at dksJ40_split_4 9 rfl rfl)
theorem dJ40_split_105 : decode cJ40_split 105 = .ok (.astore 8, 2) := dk_58 8 (dk_at dksJ40_split_4 11 rfl rfl)
theorem dJ40_split_107 : decode cJ40_split 107 = .ok (.goto 10, 3) := dk_167 0 10 (dk_at dksJ40_split_4 13 rfl rfl)
theorem dJ40_split_110 : decode cJ40_split 110 = .ok (.aload 9, 2) := dk_25 9 (dk_at dksJ40_split_4 16 rfl rfl)
theorem dJ40_split_112 : decode cJ40_split 112 = .ok (.aload 12, 2) := dk_25 12 (dk_at dksJ40_split_4 18 rfl rfl)
theorem dJ40_split_114 : decode cJ40_split 114 = .ok (.putfield 22, 3) := dk_181 0 22 (dk_at dksJ40_split_4 20 rfl rfl)
theorem dJ40_split_117 : decode cJ40_split 117 = .ok (.aload 12, 2) := dk_25 12 (dk_at dksJ40_split_5 0 rfl rfl)
theorem dJ40_split_119 : decode cJ40_split 119 = .ok (.astore 9, 2) := dk_58 9 (dk_at dksJ40_split_5 2 rfl rfl)
theorem dJ40_split_121 : decode cJ40_split 121 = .ok (.iinc 11 1, 3) := dk_132 11 1 (dk_at dksJ40_split_5 4 rfl rfl)
theorem dJ40_split_124 : decode cJ40_split 124 = .ok (.aload 13, 2) := dk_25 13 (dk_at dksJ40_split_5 7 rfl rfl)
theorem dJ40_split_126 : decode cJ40_split 126 = .ok (.astore 12, 2) := dk_58 12 (dk_at dksJ40_split_5 9 rfl rfl)
theorem dJ40_split_128 : decode cJ40_split 128 = .ok (.goto (-103), 3) := dk_167 255 153 (dk_at dksJ40_split_5 11 rfl rfl)
theorem dJ40_split_131 : decode cJ40_split 131 = .ok (.aload 6, 2) := dk_25 6 (dk_at dksJ40_split_5 14 rfl rfl)
theorem dJ40_split_133 : decode cJ40_split 133 = .ok (.ifnull 38, 3) := dk_198 0 38 (dk_at dksJ40_split_5 16 rfl rfl)
theorem dJ40_split_136 : decode cJ40_split 136 = .ok (.iload 10, 2) := dk_21 10 (dk_at dksJ40_split_5 19 rfl rfl)
theorem dJ40_split_138 : decode cJ40_split 138 = .ok (.bipush 6, 2) := dk_16 6 (dk_at dksJ40_split_5 21 rfl rfl)
theorem dJ40_split_140 : decode cJ40_split 140 = .ok (.if_icmp .gt 15, 3) := dk_163 0 15 (dk_at dksJ40_split_6 0 rfl rfl)
theorem dJ40_split_143 : decode cJ40_split 143 = .ok (.aload_n 2, 1) := dk_44 (dk_at dksJ40_split_6 3 rfl rfl)
theorem dJ40_split_144 : decode cJ40_split 144 = .ok (.iload_n 3, 1) := dk_29 (dk_at dksJ40_split_6 4 rfl rfl)
theorem dJ40_split_145 : decode cJ40_split 145 = .ok (.aload 6, 2) := dk_25 6 (dk_at dksJ40_split_6 5 rfl rfl)
theorem dJ40_split_147 : decode cJ40_split 147 = .ok (.aload_n 1, 1) := dk_43 (dk_at dksJ40_split_6 7 rfl rfl)
theorem dJ40_split_148 : decode cJ40_split 148 = .ok (.invokevirtual 119, 3) := dk_182 0 119 (dk_at dksJ40_split_6 8 rfl rfl)
theorem dJ40_split_151 : decode cJ40_split 151 = .ok (.aastore, 1) := dk_83 (dk_at dksJ40_split_6 11 rfl rfl)
theorem dJ40_split_152 : decode cJ40_split 152 = .ok (.goto 19, 3) := dk_167 0 19 (dk_at dksJ40_split_6 12 rfl rfl)
theorem dJ40_split_155 : decode cJ40_split 155 = .ok (.aload_n 2, 1) := dk_44 (dk_at dksJ40_split_6 15 rfl rfl)
theorem dJ40_split_156 : decode cJ40_split 156 = .ok (.iload_n 3, 1) := dk_29 (dk_at dksJ40_split_6 16 rfl rfl)
theorem dJ40_split_157 : decode cJ40_split 157 = .ok (.aload 6, 2) := dk_25 6 (dk_at dksJ40_split_6 17 rfl rfl)
theorem dJ40_split_159 : decode cJ40_split 159 = .ok (.aastore, 1) := dk_83 (dk_at dksJ40_split_6 19 rfl rfl)
theorem dJ40_split_160 : decode cJ40_split 160 = .ok (.aload 8, 2) := dk_25 8 (dk_at dksJ40_split_6 20 rfl rfl)
theorem dJ40_split_162 : decode cJ40_split 162 = .ok (.ifnull 9, 3) := dk_198 0 9 (dk_at dksJ40_split_7 0 rfl rfl)
theorem dJ40_split_165 : decode cJ40_split 165 = .ok (.aload 6, 2) := dk_25 6 (dk_at dksJ40_split_7 3 rfl rfl)
theorem dJ40_split_167 : decode cJ40_split 167 = .ok (.aload_n 2, 1) := dk_44 (dk_at dksJ40_split_7 5 rfl rfl)
theorem dJ40_split_168 : decode cJ40_split 168 = .ok (.invokevirtual 126, 3) := dk_182 0 126 (dk_at dksJ40_split_7 6 rfl rfl)
theorem dJ40_split_171 : decode cJ40_split 171 = .ok (.aload 8, 2) := dk_25 8 (dk_at dksJ40_split_7 9 rfl rfl)
theorem dJ40_split_173 : decode cJ40_split 173 = .ok (.ifnull 44, 3) := dk_198 0 44 (dk_at dksJ40_split_7 11 rfl rfl)
theorem dJ40_split_176 : decode cJ40_split 176 = .ok (.iload 11, 2) := dk_21 11 (dk_at dksJ40_split_7 14 rfl rfl)
theorem dJ40_split_178 : decode cJ40_split 178 = .ok (.bipush 6, 2) := dk_16 6 (dk_at dksJ40_split_7 16 rfl rfl)
theorem dJ40_split_180 : decode cJ40_split 180 = .ok (.if_icmp .gt 18, 3) := dk_163 0 18 (dk_at dksJ40_split_7 18 rfl rfl)
theorem dJ40_split_183 : decode cJ40_split 183 = .ok (.aload_n 2, 1) := dk_44 (dk_at dksJ40_split_7 21 rfl rfl)
theorem dJ40_split_184 : decode cJ40_split 184 = .ok (.iload_n 3, 1) := dk_29 (dk_at dksJ40_split_7 22 rfl rfl)
theorem dJ40_split_185 : decode cJ40_split 185 = .ok (.iload 4, 2) := dk_21 4 (dk_at dksJ40_split_8 0 rfl rfl)
theorem dJ40_split_187 : decode cJ40_split 187 = .ok (.iadd, 1) := dk_96 (dk_at dksJ40_split_8 2 rfl rfl)
theorem dJ40_split_188 : decode cJ40_split 188 = .ok (.aload 8, 2) := dk_25 8 (dk_at dksJ40_split_8 3 rfl rfl)
theorem dJ40_split_190 : decode cJ40_split 190 = .ok (.aload_n 1, 1) := dk_43 (dk_at dksJ40_split_8 5 rfl rfl)
theorem dJ40_split_191 : decode cJ40_split 191 = .ok (.invokevirtual 119, 3) := dk_182 0 119 (dk_at dksJ40_split_8 6 rfl rfl)
theorem dJ40_split_194 : decode cJ40_split 194 = .ok (.aastore, 1) := dk_83 (dk_at dksJ40_split_8 9 rfl rfl)
theorem dJ40_split_195 : decode cJ40_split 195 = .ok (.goto 22, 3) := dk_167 0 22 (dk_at dksJ40_split_8 10 rfl rfl)
theorem dJ40_split_198 : decode cJ40_split 198 = .ok (.aload_n 2, 1) := dk_44 (dk_at dksJ40_split_8 13 rfl rfl)
theorem dJ40_split_199 : decode cJ40_split 199 = .ok (.iload_n 3, 1) := dk_29 (dk_at dksJ40_split_8 14 rfl rfl)
theorem dJ40_split_200 : decode cJ40_split 200 = .ok (.iload 4, 2) := dk_21 4 (dk_at dksJ40_split_8 15 rfl rfl)
theorem dJ40_split_202 : decode cJ40_split 202 = .ok (.iadd, 1) := dk_96 (dk_at dksJ40_split_8 17 rfl rfl)
theorem dJ40_split_203 : decode cJ40_split 203 = .ok (.aload 8, 2) := dk_25 8 (dk_at dksJ40_split_8 18 rfl rfl)
theorem dJ40_split_205 : decode cJ40_split 205 = .ok (.aastore, 1) := dk_83 (dk_at dksJ40_split_8 20 rfl rfl)
theorem dJ40_split_206 : decode cJ40_split 206 = .ok (.aload 6, 2) := dk_25 6 (dk_at dksJ40_split_8 21 rfl rfl)
theorem dJ40_split_208 : decode cJ40_split 208 = .ok (.ifnull 9, 3) := dk_198 0 9 (dk_at dksJ40_split_9 0 rfl rfl)
theorem dJ40_split_211 : decode cJ40_split 211 = .ok (.aload 8, 2) := dk_25 8 (dk_at dksJ40_split_9 3 rfl rfl)
theorem dJ40_split_213 : decode cJ40_split 213 = .ok (.aload_n 2, 1) := dk_44 (dk_at dksJ40_split_9 5 rfl rfl)
theorem dJ40_split_214 : decode cJ40_split 214 = .ok (.invokevirtual 126, 3) := dk_182 0 126 (dk_at dksJ40_split_9 6 rfl rfl)
theorem dJ40_split_217 : decode cJ40_split 217 = .ok (.return_, 1) := dk_177 (dk_at dksJ40_split_9 9 rfl rfl)
abbrev cJ40_untreeify : ByteArray := prog_70_method_8_code
def yJ40_untreeify : MethodName := ⟨RJ40, "untreeify", "(Ljava/util/HashMap;)Ljava/util/HashMap$Node;"⟩
def dkwJ40_untreeify_2 : List UInt8 := [58, 4, 167, 255, 216, 44, 176]
abbrev dktJ40_untreeify_2 : List UInt8 := dkwJ40_untreeify_2 ++ []
def dkwJ40_untreeify_1 : List UInt8 := [199, 0, 9, 25, 5, 77, 167, 0, 9, 45, 25, 5, 181, 0, 112, 25, 5, 78, 25, 4, 180, 0, 112]
abbrev dktJ40_untreeify_1 : List UInt8 := dkwJ40_untreeify_1 ++ dktJ40_untreeify_2
def dkwJ40_untreeify_0 : List UInt8 := [1, 77, 1, 78, 42, 58, 4, 25, 4, 198, 0, 41, 43, 25, 4, 1, 182, 0, 108, 58, 5, 45]
abbrev dktJ40_untreeify_0 : List UInt8 := dkwJ40_untreeify_0 ++ dktJ40_untreeify_1
theorem dksJ40_untreeify_0 : cJ40_untreeify.data.toList.drop 0 = dktJ40_untreeify_0 := by decide +kernel
theorem dksJ40_untreeify_1 : cJ40_untreeify.data.toList.drop 22 = dktJ40_untreeify_1 := dk_seg dksJ40_untreeify_0 22 rfl rfl
theorem dksJ40_untreeify_2 : cJ40_untreeify.data.toList.drop 45 = dktJ40_untreeify_2 := dk_seg dksJ40_untreeify_1 23 rfl rfl
theorem dJ40_untreeify_0 : decode cJ40_untreeify 0 = .ok (.aconst_null, 1) := dk_1 (dk_at dksJ40_untreeify_0 0 rfl rfl)
theorem dJ40_untreeify_1 : decode cJ40_untreeify 1 = .ok (.astore_n 2, 1) := dk_77 (dk_at dksJ40_untreeify_0 1 rfl rfl)
theorem dJ40_untreeify_2 : decode cJ40_untreeify 2 = .ok (.aconst_null, 1) := dk_1 (dk_at dksJ40_untreeify_0 2 rfl rfl)
theorem dJ40_untreeify_3 : decode cJ40_untreeify 3 = .ok (.astore_n 3, 1) := dk_78 (dk_at dksJ40_untreeify_0 3 rfl rfl)
theorem dJ40_untreeify_4 : decode cJ40_untreeify 4 = .ok (.aload_n 0, 1) := dk_42 (dk_at dksJ40_untreeify_0 4 rfl rfl)
theorem dJ40_untreeify_5 : decode cJ40_untreeify 5 = .ok (.astore 4, 2) := dk_58 4 (dk_at dksJ40_untreeify_0 5 rfl rfl)
theorem dJ40_untreeify_7 : decode cJ40_untreeify 7 = .ok (.aload 4, 2) := dk_25 4 (dk_at dksJ40_untreeify_0 7 rfl rfl)
theorem dJ40_untreeify_9 : decode cJ40_untreeify 9 = .ok (.ifnull 41, 3) := dk_198 0 41 (dk_at dksJ40_untreeify_0 9 rfl rfl)
theorem dJ40_untreeify_12 : decode cJ40_untreeify 12 = .ok (.aload_n 1, 1) := dk_43 (dk_at dksJ40_untreeify_0 12 rfl rfl)
theorem dJ40_untreeify_13 : decode cJ40_untreeify 13 = .ok (.aload 4, 2) := dk_25 4 (dk_at dksJ40_untreeify_0 13 rfl rfl)
theorem dJ40_untreeify_15 : decode cJ40_untreeify 15 = .ok (.aconst_null, 1) := dk_1 (dk_at dksJ40_untreeify_0 15 rfl rfl)
theorem dJ40_untreeify_16 : decode cJ40_untreeify 16 = .ok (.invokevirtual 108, 3) := dk_182 0 108 (dk_at dksJ40_untreeify_0 16 rfl rfl)
theorem dJ40_untreeify_19 : decode cJ40_untreeify 19 = .ok (.astore 5, 2) := dk_58 5 (dk_at dksJ40_untreeify_0 19 rfl rfl)
theorem dJ40_untreeify_21 : decode cJ40_untreeify 21 = .ok (.aload_n 3, 1) := dk_45 (dk_at dksJ40_untreeify_0 21 rfl rfl)
theorem dJ40_untreeify_22 : decode cJ40_untreeify 22 = .ok (.ifnonnull 9, 3) := dk_199 0 9 (dk_at dksJ40_untreeify_1 0 rfl rfl)
theorem dJ40_untreeify_25 : decode cJ40_untreeify 25 = .ok (.aload 5, 2) := dk_25 5 (dk_at dksJ40_untreeify_1 3 rfl rfl)
theorem dJ40_untreeify_27 : decode cJ40_untreeify 27 = .ok (.astore_n 2, 1) := dk_77 (dk_at dksJ40_untreeify_1 5 rfl rfl)
theorem dJ40_untreeify_28 : decode cJ40_untreeify 28 = .ok (.goto 9, 3) := dk_167 0 9 (dk_at dksJ40_untreeify_1 6 rfl rfl)
theorem dJ40_untreeify_31 : decode cJ40_untreeify 31 = .ok (.aload_n 3, 1) := dk_45 (dk_at dksJ40_untreeify_1 9 rfl rfl)
theorem dJ40_untreeify_32 : decode cJ40_untreeify 32 = .ok (.aload 5, 2) := dk_25 5 (dk_at dksJ40_untreeify_1 10 rfl rfl)
theorem dJ40_untreeify_34 : decode cJ40_untreeify 34 = .ok (.putfield 112, 3) := dk_181 0 112 (dk_at dksJ40_untreeify_1 12 rfl rfl)
theorem dJ40_untreeify_37 : decode cJ40_untreeify 37 = .ok (.aload 5, 2) := dk_25 5 (dk_at dksJ40_untreeify_1 15 rfl rfl)
theorem dJ40_untreeify_39 : decode cJ40_untreeify 39 = .ok (.astore_n 3, 1) := dk_78 (dk_at dksJ40_untreeify_1 17 rfl rfl)
theorem dJ40_untreeify_40 : decode cJ40_untreeify 40 = .ok (.aload 4, 2) := dk_25 4 (dk_at dksJ40_untreeify_1 18 rfl rfl)
theorem dJ40_untreeify_42 : decode cJ40_untreeify 42 = .ok (.getfield 112, 3) := dk_180 0 112 (dk_at dksJ40_untreeify_1 20 rfl rfl)
theorem dJ40_untreeify_45 : decode cJ40_untreeify 45 = .ok (.astore 4, 2) := dk_58 4 (dk_at dksJ40_untreeify_2 0 rfl rfl)
theorem dJ40_untreeify_47 : decode cJ40_untreeify 47 = .ok (.goto (-40), 3) := dk_167 255 216 (dk_at dksJ40_untreeify_2 2 rfl rfl)
theorem dJ40_untreeify_50 : decode cJ40_untreeify 50 = .ok (.aload_n 2, 1) := dk_44 (dk_at dksJ40_untreeify_2 5 rfl rfl)
theorem dJ40_untreeify_51 : decode cJ40_untreeify 51 = .ok (.areturn, 1) := dk_176 (dk_at dksJ40_untreeify_2 6 rfl rfl)
abbrev cJ40_treeify : ByteArray := prog_70_method_7_code
def yJ40_treeify : MethodName := ⟨RJ40, "treeify", "([Ljava/util/HashMap$Node;)V"⟩
def dkwJ40_treeify_9 : List UInt8 := [25, 4, 78, 167, 255, 48, 43, 44, 184, 0, 104, 177]
abbrev dktJ40_treeify_9 : List UInt8 := dkwJ40_treeify_9 ++ []
def dkwJ40_treeify_8 : List UInt8 := [181, 0, 39, 167, 0, 9, 25, 12, 45, 181, 0, 42, 44, 45, 184, 0, 100, 77, 167, 0, 6, 167, 255, 114]
abbrev dktJ40_treeify_8 : List UInt8 := dkwJ40_treeify_8 ++ dktJ40_treeify_9
def dkwJ40_treeify_7 : List UInt8 := [180, 0, 42, 89, 58, 8, 199, 0, 38, 45, 25, 12, 181, 0, 9, 21, 9, 157, 0, 12, 25, 12, 45]
abbrev dktJ40_treeify_7 : List UInt8 := dkwJ40_treeify_7 ++ dktJ40_treeify_8
def dkwJ40_treeify_6 : List UInt8 := [184, 0, 96, 54, 9, 25, 8, 58, 12, 21, 9, 157, 0, 11, 25, 8, 180, 0, 39, 167, 0, 8, 25, 8]
abbrev dktJ40_treeify_6 : List UInt8 := dkwJ40_treeify_6 ++ dktJ40_treeify_7
def dkwJ40_treeify_5 : List UInt8 := [198, 0, 18, 25, 7, 25, 5, 25, 11, 184, 0, 59, 89, 54, 9, 154, 0, 12, 25, 5, 25, 11]
abbrev dktJ40_treeify_5 : List UInt8 := dkwJ40_treeify_5 ++ dktJ40_treeify_6
def dkwJ40_treeify_4 : List UInt8 := [162, 0, 9, 4, 54, 9, 167, 0, 43, 25, 7, 199, 0, 14, 25, 5, 184, 0, 55, 89, 58, 7]
abbrev dktJ40_treeify_4 : List UInt8 := dkwJ40_treeify_4 ++ dktJ40_treeify_5
def dkwJ40_treeify_3 : List UInt8 := [25, 8, 180, 0, 15, 89, 54, 10, 21, 6, 164, 0, 9, 2, 54, 9, 167, 0, 56, 21, 10, 21, 6]
abbrev dktJ40_treeify_3 : List UInt8 := dkwJ40_treeify_3 ++ dktJ40_treeify_4
def dkwJ40_treeify_2 : List UInt8 := [180, 0, 45, 58, 5, 45, 180, 0, 15, 54, 6, 1, 58, 7, 44, 58, 8, 25, 8, 180, 0, 45, 58, 11]
abbrev dktJ40_treeify_2 : List UInt8 := dkwJ40_treeify_2 ++ dktJ40_treeify_3
def dkwJ40_treeify_1 : List UInt8 := [181, 0, 39, 44, 199, 0, 18, 45, 1, 181, 0, 9, 45, 3, 181, 0, 93, 45, 77, 167, 0, 166, 45]
abbrev dktJ40_treeify_1 : List UInt8 := dkwJ40_treeify_1 ++ dktJ40_treeify_2
def dkwJ40_treeify_0 : List UInt8 := [1, 77, 42, 78, 45, 198, 0, 210, 45, 180, 0, 22, 192, 0, 10, 58, 4, 45, 45, 1, 90, 181, 0, 42]
abbrev dktJ40_treeify_0 : List UInt8 := dkwJ40_treeify_0 ++ dktJ40_treeify_1
theorem dksJ40_treeify_0 : cJ40_treeify.data.toList.drop 0 = dktJ40_treeify_0 := by decide +kernel
theorem dksJ40_treeify_1 : cJ40_treeify.data.toList.drop 24 = dktJ40_treeify_1 := dk_seg dksJ40_treeify_0 24 rfl rfl
theorem dksJ40_treeify_2 : cJ40_treeify.data.toList.drop 47 = dktJ40_treeify_2 := dk_seg dksJ40_treeify_1 23 rfl rfl
theorem dksJ40_treeify_3 : cJ40_treeify.data.toList.drop 71 = dktJ40_treeify_3 := dk_seg dksJ40_treeify_2 24 rfl rfl
theorem dksJ40_treeify_4 : cJ40_treeify.data.toList.drop 94 = dktJ40_treeify_4 := dk_seg dksJ40_treeify_3 23 rfl rfl
theorem dksJ40_treeify_5 : cJ40_treeify.data.toList.drop 116 = dktJ40_treeify_5 := dk_seg dksJ40_treeify_4 22 rfl rfl
theorem dksJ40_treeify_6 : cJ40_treeify.data.toList.drop 138 = dktJ40_treeify_6 := dk_seg dksJ40_treeify_5 22 rfl rfl
theorem dksJ40_treeify_7 : cJ40_treeify.data.toList.drop 162 = dktJ40_treeify_7 := dk_seg dksJ40_treeify_6 24 rfl rfl
theorem dksJ40_treeify_8 : cJ40_treeify.data.toList.drop 185 = dktJ40_treeify_8 := dk_seg dksJ40_treeify_7 23 rfl rfl
theorem dksJ40_treeify_9 : cJ40_treeify.data.toList.drop 209 = dktJ40_treeify_9 := dk_seg dksJ40_treeify_8 24 rfl rfl
theorem dJ40_treeify_0 : decode cJ40_treeify 0 = .ok (.aconst_null, 1) := dk_1 (dk_at dksJ40_treeify_0 0 rfl rfl)
theorem dJ40_treeify_1 : decode cJ40_treeify 1 = .ok (.astore_n 2, 1) := dk_77 (dk_at dksJ40_treeify_0 1 rfl rfl)
theorem dJ40_treeify_2 : decode cJ40_treeify 2 = .ok (.aload_n 0, 1) := dk_42 (dk_at dksJ40_treeify_0 2 rfl rfl)
theorem dJ40_treeify_3 : decode cJ40_treeify 3 = .ok (.astore_n 3, 1) := dk_78 (dk_at dksJ40_treeify_0 3 rfl rfl)
theorem dJ40_treeify_4 : decode cJ40_treeify 4 = .ok (.aload_n 3, 1) := dk_45 (dk_at dksJ40_treeify_0 4 rfl rfl)
theorem dJ40_treeify_5 : decode cJ40_treeify 5 = .ok (.ifnull 210, 3) := dk_198 0 210 (dk_at dksJ40_treeify_0 5 rfl rfl)
theorem dJ40_treeify_8 : decode cJ40_treeify 8 = .ok (.aload_n 3, 1) := dk_45 (dk_at dksJ40_treeify_0 8 rfl rfl)
theorem dJ40_treeify_9 : decode cJ40_treeify 9 = .ok (.getfield 22, 3) := dk_180 0 22 (dk_at dksJ40_treeify_0 9 rfl rfl)
theorem dJ40_treeify_12 : decode cJ40_treeify 12 = .ok (.checkcast 10, 3) := dk_192 0 10 (dk_at dksJ40_treeify_0 12 rfl rfl)
theorem dJ40_treeify_15 : decode cJ40_treeify 15 = .ok (.astore 4, 2) := dk_58 4 (dk_at dksJ40_treeify_0 15 rfl rfl)
theorem dJ40_treeify_17 : decode cJ40_treeify 17 = .ok (.aload_n 3, 1) := dk_45 (dk_at dksJ40_treeify_0 17 rfl rfl)
theorem dJ40_treeify_18 : decode cJ40_treeify 18 = .ok (.aload_n 3, 1) := dk_45 (dk_at dksJ40_treeify_0 18 rfl rfl)
theorem dJ40_treeify_19 : decode cJ40_treeify 19 = .ok (.aconst_null, 1) := dk_1 (dk_at dksJ40_treeify_0 19 rfl rfl)
theorem dJ40_treeify_20 : decode cJ40_treeify 20 = .ok (.dup_x1, 1) := dk_90 (dk_at dksJ40_treeify_0 20 rfl rfl)
theorem dJ40_treeify_21 : decode cJ40_treeify 21 = .ok (.putfield 42, 3) := dk_181 0 42 (dk_at dksJ40_treeify_0 21 rfl rfl)
theorem dJ40_treeify_24 : decode cJ40_treeify 24 = .ok (.putfield 39, 3) := dk_181 0 39 (dk_at dksJ40_treeify_1 0 rfl rfl)
theorem dJ40_treeify_27 : decode cJ40_treeify 27 = .ok (.aload_n 2, 1) := dk_44 (dk_at dksJ40_treeify_1 3 rfl rfl)
theorem dJ40_treeify_28 : decode cJ40_treeify 28 = .ok (.ifnonnull 18, 3) := dk_199 0 18 (dk_at dksJ40_treeify_1 4 rfl rfl)
theorem dJ40_treeify_31 : decode cJ40_treeify 31 = .ok (.aload_n 3, 1) := dk_45 (dk_at dksJ40_treeify_1 7 rfl rfl)
theorem dJ40_treeify_32 : decode cJ40_treeify 32 = .ok (.aconst_null, 1) := dk_1 (dk_at dksJ40_treeify_1 8 rfl rfl)
theorem dJ40_treeify_33 : decode cJ40_treeify 33 = .ok (.putfield 9, 3) := dk_181 0 9 (dk_at dksJ40_treeify_1 9 rfl rfl)
theorem dJ40_treeify_36 : decode cJ40_treeify 36 = .ok (.aload_n 3, 1) := dk_45 (dk_at dksJ40_treeify_1 12 rfl rfl)
theorem dJ40_treeify_37 : decode cJ40_treeify 37 = .ok (.iconst 0, 1) := dk_3 (dk_at dksJ40_treeify_1 13 rfl rfl)
theorem dJ40_treeify_38 : decode cJ40_treeify 38 = .ok (.putfield 93, 3) := dk_181 0 93 (dk_at dksJ40_treeify_1 14 rfl rfl)
theorem dJ40_treeify_41 : decode cJ40_treeify 41 = .ok (.aload_n 3, 1) := dk_45 (dk_at dksJ40_treeify_1 17 rfl rfl)
theorem dJ40_treeify_42 : decode cJ40_treeify 42 = .ok (.astore_n 2, 1) := dk_77 (dk_at dksJ40_treeify_1 18 rfl rfl)
theorem dJ40_treeify_43 : decode cJ40_treeify 43 = .ok (.goto 166, 3) := dk_167 0 166 (dk_at dksJ40_treeify_1 19 rfl rfl)
theorem dJ40_treeify_46 : decode cJ40_treeify 46 = .ok (.aload_n 3, 1) := dk_45 (dk_at dksJ40_treeify_1 22 rfl rfl)
theorem dJ40_treeify_47 : decode cJ40_treeify 47 = .ok (.getfield 45, 3) := dk_180 0 45 (dk_at dksJ40_treeify_2 0 rfl rfl)
theorem dJ40_treeify_50 : decode cJ40_treeify 50 = .ok (.astore 5, 2) := dk_58 5 (dk_at dksJ40_treeify_2 3 rfl rfl)
theorem dJ40_treeify_52 : decode cJ40_treeify 52 = .ok (.aload_n 3, 1) := dk_45 (dk_at dksJ40_treeify_2 5 rfl rfl)
theorem dJ40_treeify_53 : decode cJ40_treeify 53 = .ok (.getfield 15, 3) := dk_180 0 15 (dk_at dksJ40_treeify_2 6 rfl rfl)
theorem dJ40_treeify_56 : decode cJ40_treeify 56 = .ok (.istore 6, 2) := dk_54 6 (dk_at dksJ40_treeify_2 9 rfl rfl)
theorem dJ40_treeify_58 : decode cJ40_treeify 58 = .ok (.aconst_null, 1) := dk_1 (dk_at dksJ40_treeify_2 11 rfl rfl)
theorem dJ40_treeify_59 : decode cJ40_treeify 59 = .ok (.astore 7, 2) := dk_58 7 (dk_at dksJ40_treeify_2 12 rfl rfl)
theorem dJ40_treeify_61 : decode cJ40_treeify 61 = .ok (.aload_n 2, 1) := dk_44 (dk_at dksJ40_treeify_2 14 rfl rfl)
theorem dJ40_treeify_62 : decode cJ40_treeify 62 = .ok (.astore 8, 2) := dk_58 8 (dk_at dksJ40_treeify_2 15 rfl rfl)
theorem dJ40_treeify_64 : decode cJ40_treeify 64 = .ok (.aload 8, 2) := dk_25 8 (dk_at dksJ40_treeify_2 17 rfl rfl)
theorem dJ40_treeify_66 : decode cJ40_treeify 66 = .ok (.getfield 45, 3) := dk_180 0 45 (dk_at dksJ40_treeify_2 19 rfl rfl)
theorem dJ40_treeify_69 : decode cJ40_treeify 69 = .ok (.astore 11, 2) := dk_58 11 (dk_at dksJ40_treeify_2 22 rfl rfl)
theorem dJ40_treeify_71 : decode cJ40_treeify 71 = .ok (.aload 8, 2) := dk_25 8 (dk_at dksJ40_treeify_3 0 rfl rfl)
theorem dJ40_treeify_73 : decode cJ40_treeify 73 = .ok (.getfield 15, 3) := dk_180 0 15 (dk_at dksJ40_treeify_3 2 rfl rfl)
theorem dJ40_treeify_76 : decode cJ40_treeify 76 = .ok (.dup, 1) := dk_89 (dk_at dksJ40_treeify_3 5 rfl rfl)
theorem dJ40_treeify_77 : decode cJ40_treeify 77 = .ok (.istore 10, 2) := dk_54 10 (dk_at dksJ40_treeify_3 6 rfl rfl)
theorem dJ40_treeify_79 : decode cJ40_treeify 79 = .ok (.iload 6, 2) := dk_21 6 (dk_at dksJ40_treeify_3 8 rfl rfl)
theorem dJ40_treeify_81 : decode cJ40_treeify 81 = .ok (.if_icmp .le 9, 3) := dk_164 0 9 (dk_at dksJ40_treeify_3 10 rfl rfl)
theorem dJ40_treeify_84 : decode cJ40_treeify 84 = .ok (.iconst (-1), 1) := dk_2 (dk_at dksJ40_treeify_3 13 rfl rfl)
theorem dJ40_treeify_85 : decode cJ40_treeify 85 = .ok (.istore 9, 2) := dk_54 9 (dk_at dksJ40_treeify_3 14 rfl rfl)
theorem dJ40_treeify_87 : decode cJ40_treeify 87 = .ok (.goto 56, 3) := dk_167 0 56 (dk_at dksJ40_treeify_3 16 rfl rfl)
theorem dJ40_treeify_90 : decode cJ40_treeify 90 = .ok (.iload 10, 2) := dk_21 10 (dk_at dksJ40_treeify_3 19 rfl rfl)
theorem dJ40_treeify_92 : decode cJ40_treeify 92 = .ok (.iload 6, 2) := dk_21 6 (dk_at dksJ40_treeify_3 21 rfl rfl)
theorem dJ40_treeify_94 : decode cJ40_treeify 94 = .ok (.if_icmp .ge 9, 3) := dk_162 0 9 (dk_at dksJ40_treeify_4 0 rfl rfl)
theorem dJ40_treeify_97 : decode cJ40_treeify 97 = .ok (.iconst 1, 1) := dk_4 (dk_at dksJ40_treeify_4 3 rfl rfl)
theorem dJ40_treeify_98 : decode cJ40_treeify 98 = .ok (.istore 9, 2) := dk_54 9 (dk_at dksJ40_treeify_4 4 rfl rfl)
theorem dJ40_treeify_100 : decode cJ40_treeify 100 = .ok (.goto 43, 3) := dk_167 0 43 (dk_at dksJ40_treeify_4 6 rfl rfl)
theorem dJ40_treeify_103 : decode cJ40_treeify 103 = .ok (.aload 7, 2) := dk_25 7 (dk_at dksJ40_treeify_4 9 rfl rfl)
theorem dJ40_treeify_105 : decode cJ40_treeify 105 = .ok (.ifnonnull 14, 3) := dk_199 0 14 (dk_at dksJ40_treeify_4 11 rfl rfl)
theorem dJ40_treeify_108 : decode cJ40_treeify 108 = .ok (.aload 5, 2) := dk_25 5 (dk_at dksJ40_treeify_4 14 rfl rfl)
theorem dJ40_treeify_110 : decode cJ40_treeify 110 = .ok (.invokestatic 55, 3) := dk_184 0 55 (dk_at dksJ40_treeify_4 16 rfl rfl)
theorem dJ40_treeify_113 : decode cJ40_treeify 113 = .ok (.dup, 1) := dk_89 (dk_at dksJ40_treeify_4 19 rfl rfl)
theorem dJ40_treeify_114 : decode cJ40_treeify 114 = .ok (.astore 7, 2) := dk_58 7 (dk_at dksJ40_treeify_4 20 rfl rfl)
theorem dJ40_treeify_116 : decode cJ40_treeify 116 = .ok (.ifnull 18, 3) := dk_198 0 18 (dk_at dksJ40_treeify_5 0 rfl rfl)
theorem dJ40_treeify_119 : decode cJ40_treeify 119 = .ok (.aload 7, 2) := dk_25 7 (dk_at dksJ40_treeify_5 3 rfl rfl)
theorem dJ40_treeify_121 : decode cJ40_treeify 121 = .ok (.aload 5, 2) := dk_25 5 (dk_at dksJ40_treeify_5 5 rfl rfl)
theorem dJ40_treeify_123 : decode cJ40_treeify 123 = .ok (.aload 11, 2) := dk_25 11 (dk_at dksJ40_treeify_5 7 rfl rfl)
theorem dJ40_treeify_125 : decode cJ40_treeify 125 = .ok (.invokestatic 59, 3) := dk_184 0 59 (dk_at dksJ40_treeify_5 9 rfl rfl)
theorem dJ40_treeify_128 : decode cJ40_treeify 128 = .ok (.dup, 1) := dk_89 (dk_at dksJ40_treeify_5 12 rfl rfl)
theorem dJ40_treeify_129 : decode cJ40_treeify 129 = .ok (.istore 9, 2) := dk_54 9 (dk_at dksJ40_treeify_5 13 rfl rfl)
theorem dJ40_treeify_131 : decode cJ40_treeify 131 = .ok (.ifCond .ne 12, 3) := dk_154 0 12 (dk_at dksJ40_treeify_5 15 rfl rfl)
theorem dJ40_treeify_134 : decode cJ40_treeify 134 = .ok (.aload 5, 2) := dk_25 5 (dk_at dksJ40_treeify_5 18 rfl rfl)
theorem dJ40_treeify_136 : decode cJ40_treeify 136 = .ok (.aload 11, 2) := dk_25 11 (dk_at dksJ40_treeify_5 20 rfl rfl)
theorem dJ40_treeify_138 : decode cJ40_treeify 138 = .ok (.invokestatic 96, 3) := dk_184 0 96 (dk_at dksJ40_treeify_6 0 rfl rfl)
theorem dJ40_treeify_141 : decode cJ40_treeify 141 = .ok (.istore 9, 2) := dk_54 9 (dk_at dksJ40_treeify_6 3 rfl rfl)
theorem dJ40_treeify_143 : decode cJ40_treeify 143 = .ok (.aload 8, 2) := dk_25 8 (dk_at dksJ40_treeify_6 5 rfl rfl)
theorem dJ40_treeify_145 : decode cJ40_treeify 145 = .ok (.astore 12, 2) := dk_58 12 (dk_at dksJ40_treeify_6 7 rfl rfl)
theorem dJ40_treeify_147 : decode cJ40_treeify 147 = .ok (.iload 9, 2) := dk_21 9 (dk_at dksJ40_treeify_6 9 rfl rfl)
theorem dJ40_treeify_149 : decode cJ40_treeify 149 = .ok (.ifCond .gt 11, 3) := dk_157 0 11 (dk_at dksJ40_treeify_6 11 rfl rfl)
theorem dJ40_treeify_152 : decode cJ40_treeify 152 = .ok (.aload 8, 2) := dk_25 8 (dk_at dksJ40_treeify_6 14 rfl rfl)
theorem dJ40_treeify_154 : decode cJ40_treeify 154 = .ok (.getfield 39, 3) := dk_180 0 39 (dk_at dksJ40_treeify_6 16 rfl rfl)
theorem dJ40_treeify_157 : decode cJ40_treeify 157 = .ok (.goto 8, 3) := dk_167 0 8 (dk_at dksJ40_treeify_6 19 rfl rfl)
theorem dJ40_treeify_160 : decode cJ40_treeify 160 = .ok (.aload 8, 2) := dk_25 8 (dk_at dksJ40_treeify_6 22 rfl rfl)
theorem dJ40_treeify_162 : decode cJ40_treeify 162 = .ok (.getfield 42, 3) := dk_180 0 42 (dk_at dksJ40_treeify_7 0 rfl rfl)
theorem dJ40_treeify_165 : decode cJ40_treeify 165 = .ok (.dup, 1) := dk_89 (dk_at dksJ40_treeify_7 3 rfl rfl)
theorem dJ40_treeify_166 : decode cJ40_treeify 166 = .ok (.astore 8, 2) := dk_58 8 (dk_at dksJ40_treeify_7 4 rfl rfl)
theorem dJ40_treeify_168 : decode cJ40_treeify 168 = .ok (.ifnonnull 38, 3) := dk_199 0 38 (dk_at dksJ40_treeify_7 6 rfl rfl)
theorem dJ40_treeify_171 : decode cJ40_treeify 171 = .ok (.aload_n 3, 1) := dk_45 (dk_at dksJ40_treeify_7 9 rfl rfl)
theorem dJ40_treeify_172 : decode cJ40_treeify 172 = .ok (.aload 12, 2) := dk_25 12 (dk_at dksJ40_treeify_7 10 rfl rfl)
theorem dJ40_treeify_174 : decode cJ40_treeify 174 = .ok (.putfield 9, 3) := dk_181 0 9 (dk_at dksJ40_treeify_7 12 rfl rfl)
theorem dJ40_treeify_177 : decode cJ40_treeify 177 = .ok (.iload 9, 2) := dk_21 9 (dk_at dksJ40_treeify_7 15 rfl rfl)
theorem dJ40_treeify_179 : decode cJ40_treeify 179 = .ok (.ifCond .gt 12, 3) := dk_157 0 12 (dk_at dksJ40_treeify_7 17 rfl rfl)
theorem dJ40_treeify_182 : decode cJ40_treeify 182 = .ok (.aload 12, 2) := dk_25 12 (dk_at dksJ40_treeify_7 20 rfl rfl)
theorem dJ40_treeify_184 : decode cJ40_treeify 184 = .ok (.aload_n 3, 1) := dk_45 (dk_at dksJ40_treeify_7 22 rfl rfl)
theorem dJ40_treeify_185 : decode cJ40_treeify 185 = .ok (.putfield 39, 3) := dk_181 0 39 (dk_at dksJ40_treeify_8 0 rfl rfl)
theorem dJ40_treeify_188 : decode cJ40_treeify 188 = .ok (.goto 9, 3) := dk_167 0 9 (dk_at dksJ40_treeify_8 3 rfl rfl)
theorem dJ40_treeify_191 : decode cJ40_treeify 191 = .ok (.aload 12, 2) := dk_25 12 (dk_at dksJ40_treeify_8 6 rfl rfl)
theorem dJ40_treeify_193 : decode cJ40_treeify 193 = .ok (.aload_n 3, 1) := dk_45 (dk_at dksJ40_treeify_8 8 rfl rfl)
theorem dJ40_treeify_194 : decode cJ40_treeify 194 = .ok (.putfield 42, 3) := dk_181 0 42 (dk_at dksJ40_treeify_8 9 rfl rfl)
theorem dJ40_treeify_197 : decode cJ40_treeify 197 = .ok (.aload_n 2, 1) := dk_44 (dk_at dksJ40_treeify_8 12 rfl rfl)
theorem dJ40_treeify_198 : decode cJ40_treeify 198 = .ok (.aload_n 3, 1) := dk_45 (dk_at dksJ40_treeify_8 13 rfl rfl)
theorem dJ40_treeify_199 : decode cJ40_treeify 199 = .ok (.invokestatic 100, 3) := dk_184 0 100 (dk_at dksJ40_treeify_8 14 rfl rfl)
theorem dJ40_treeify_202 : decode cJ40_treeify 202 = .ok (.astore_n 2, 1) := dk_77 (dk_at dksJ40_treeify_8 17 rfl rfl)
theorem dJ40_treeify_203 : decode cJ40_treeify 203 = .ok (.goto 6, 3) := dk_167 0 6 (dk_at dksJ40_treeify_8 18 rfl rfl)
theorem dJ40_treeify_206 : decode cJ40_treeify 206 = .ok (.goto (-142), 3) := dk_167 255 114 (dk_at dksJ40_treeify_8 21 rfl rfl)
theorem dJ40_treeify_209 : decode cJ40_treeify 209 = .ok (.aload 4, 2) := dk_25 4 (dk_at dksJ40_treeify_9 0 rfl rfl)
theorem dJ40_treeify_211 : decode cJ40_treeify 211 = .ok (.astore_n 3, 1) := dk_78 (dk_at dksJ40_treeify_9 2 rfl rfl)
theorem dJ40_treeify_212 : decode cJ40_treeify 212 = .ok (.goto (-208), 3) := dk_167 255 48 (dk_at dksJ40_treeify_9 3 rfl rfl)
theorem dJ40_treeify_215 : decode cJ40_treeify 215 = .ok (.aload_n 1, 1) := dk_43 (dk_at dksJ40_treeify_9 6 rfl rfl)
theorem dJ40_treeify_216 : decode cJ40_treeify 216 = .ok (.aload_n 2, 1) := dk_44 (dk_at dksJ40_treeify_9 7 rfl rfl)
theorem dJ40_treeify_217 : decode cJ40_treeify 217 = .ok (.invokestatic 104, 3) := dk_184 0 104 (dk_at dksJ40_treeify_9 8 rfl rfl)
theorem dJ40_treeify_220 : decode cJ40_treeify 220 = .ok (.return_, 1) := dk_177 (dk_at dksJ40_treeify_9 11 rfl rfl)
abbrev cJ40_balanceInsertion : ByteArray := prog_70_method_14_code
def yJ40_balanceInsertion : MethodName := ⟨RJ40, "balanceInsertion", "(Ljava/util/HashMap$TreeNode;Ljava/util/HashMap$TreeNode;)Ljava/util/HashMap$TreeNode;"⟩
def dkwJ40_balanceInsertion_10 : List UInt8 := [198, 255, 33, 45, 4, 181, 0, 93, 42, 45, 184, 0, 130, 75, 167, 255, 19]
abbrev dktJ40_balanceInsertion_10 : List UInt8 := dkwJ40_balanceInsertion_10 ++ []
def dkwJ40_balanceInsertion_9 : List UInt8 := [199, 0, 7, 1, 167, 0, 7, 44, 180, 0, 9, 78, 44, 198, 255, 42, 44, 3, 181, 0, 93, 45]
abbrev dktJ40_balanceInsertion_9 : List UInt8 := dkwJ40_balanceInsertion_9 ++ dktJ40_balanceInsertion_10
def dkwJ40_balanceInsertion_8 : List UInt8 := [43, 44, 180, 0, 39, 166, 0, 29, 42, 44, 89, 76, 184, 0, 133, 75, 43, 180, 0, 9, 89, 77]
abbrev dktJ40_balanceInsertion_8 : List UInt8 := dkwJ40_balanceInsertion_8 ++ dktJ40_balanceInsertion_9
def dkwJ40_balanceInsertion_7 : List UInt8 := [153, 0, 24, 25, 4, 3, 181, 0, 93, 44, 3, 181, 0, 93, 45, 4, 181, 0, 93, 45, 76, 167, 255, 80]
abbrev dktJ40_balanceInsertion_7 : List UInt8 := dkwJ40_balanceInsertion_7 ++ dktJ40_balanceInsertion_8
def dkwJ40_balanceInsertion_6 : List UInt8 := [181, 0, 93, 42, 45, 184, 0, 133, 75, 167, 255, 114, 25, 4, 198, 0, 32, 25, 4, 180, 0, 93]
abbrev dktJ40_balanceInsertion_6 : List UInt8 := dkwJ40_balanceInsertion_6 ++ dktJ40_balanceInsertion_7
def dkwJ40_balanceInsertion_5 : List UInt8 := [167, 0, 7, 44, 180, 0, 9, 78, 44, 198, 255, 137, 44, 3, 181, 0, 93, 45, 198, 255, 128, 45, 4]
abbrev dktJ40_balanceInsertion_5 : List UInt8 := dkwJ40_balanceInsertion_5 ++ dktJ40_balanceInsertion_6
def dkwJ40_balanceInsertion_4 : List UInt8 := [180, 0, 42, 166, 0, 29, 42, 44, 89, 76, 184, 0, 130, 75, 43, 180, 0, 9, 89, 77, 199, 0, 7, 1]
abbrev dktJ40_balanceInsertion_4 : List UInt8 := dkwJ40_balanceInsertion_4 ++ dktJ40_balanceInsertion_5
def dkwJ40_balanceInsertion_3 : List UInt8 := [25, 5, 3, 181, 0, 93, 44, 3, 181, 0, 93, 45, 4, 181, 0, 93, 45, 76, 167, 255, 175, 43, 44]
abbrev dktJ40_balanceInsertion_3 : List UInt8 := dkwJ40_balanceInsertion_3 ++ dktJ40_balanceInsertion_4
def dkwJ40_balanceInsertion_2 : List UInt8 := [58, 4, 166, 0, 103, 45, 180, 0, 42, 89, 58, 5, 198, 0, 32, 25, 5, 180, 0, 93, 153, 0, 24]
abbrev dktJ40_balanceInsertion_2 : List UInt8 := dkwJ40_balanceInsertion_2 ++ dktJ40_balanceInsertion_3
def dkwJ40_balanceInsertion_1 : List UInt8 := [180, 0, 93, 153, 0, 12, 44, 180, 0, 9, 89, 78, 199, 0, 5, 42, 176, 44, 45, 180, 0, 39, 89]
abbrev dktJ40_balanceInsertion_1 : List UInt8 := dkwJ40_balanceInsertion_1 ++ dktJ40_balanceInsertion_2
def dkwJ40_balanceInsertion_0 : List UInt8 := [43, 4, 181, 0, 93, 43, 180, 0, 9, 89, 77, 199, 0, 10, 43, 3, 181, 0, 93, 43, 176, 44]
abbrev dktJ40_balanceInsertion_0 : List UInt8 := dkwJ40_balanceInsertion_0 ++ dktJ40_balanceInsertion_1
theorem dksJ40_balanceInsertion_0 : cJ40_balanceInsertion.data.toList.drop 0 = dktJ40_balanceInsertion_0 := by decide +kernel
theorem dksJ40_balanceInsertion_1 : cJ40_balanceInsertion.data.toList.drop 22 = dktJ40_balanceInsertion_1 := dk_seg dksJ40_balanceInsertion_0 22 rfl rfl
theorem dksJ40_balanceInsertion_2 : cJ40_balanceInsertion.data.toList.drop 45 = dktJ40_balanceInsertion_2 := dk_seg dksJ40_balanceInsertion_1 23 rfl rfl
theorem dksJ40_balanceInsertion_3 : cJ40_balanceInsertion.data.toList.drop 68 = dktJ40_balanceInsertion_3 := dk_seg dksJ40_balanceInsertion_2 23 rfl rfl
theorem dksJ40_balanceInsertion_4 : cJ40_balanceInsertion.data.toList.drop 91 = dktJ40_balanceInsertion_4 := dk_seg dksJ40_balanceInsertion_3 23 rfl rfl
theorem dksJ40_balanceInsertion_5 : cJ40_balanceInsertion.data.toList.drop 115 = dktJ40_balanceInsertion_5 := dk_seg dksJ40_balanceInsertion_4 24 rfl rfl
theorem dksJ40_balanceInsertion_6 : cJ40_balanceInsertion.data.toList.drop 138 = dktJ40_balanceInsertion_6 := dk_seg dksJ40_balanceInsertion_5 23 rfl rfl
theorem dksJ40_balanceInsertion_7 : cJ40_balanceInsertion.data.toList.drop 160 = dktJ40_balanceInsertion_7 := dk_seg dksJ40_balanceInsertion_6 22 rfl rfl
theorem dksJ40_balanceInsertion_8 : cJ40_balanceInsertion.data.toList.drop 184 = dktJ40_balanceInsertion_8 := dk_seg dksJ40_balanceInsertion_7 24 rfl rfl
theorem dksJ40_balanceInsertion_9 : cJ40_balanceInsertion.data.toList.drop 206 = dktJ40_balanceInsertion_9 := dk_seg dksJ40_balanceInsertion_8 22 rfl rfl
theorem dksJ40_balanceInsertion_10 : cJ40_balanceInsertion.data.toList.drop 228 = dktJ40_balanceInsertion_10 := dk_seg dksJ40_balanceInsertion_9 22 rfl rfl
theorem dJ40_balanceInsertion_0 : decode cJ40_balanceInsertion 0 = .ok (.aload_n 1, 1) := dk_43 (dk_at dksJ40_balanceInsertion_0 0 rfl rfl)
theorem dJ40_balanceInsertion_1 : decode cJ40_balanceInsertion 1 = .ok (.iconst 1, 1) := dk_4 (dk_at dksJ40_balanceInsertion_0 1 rfl rfl)
theorem dJ40_balanceInsertion_2 : decode cJ40_balanceInsertion 2 = .ok (.putfield 93, 3) := dk_181 0 93 (dk_at dksJ40_balanceInsertion_0 2 rfl rfl)
theorem dJ40_balanceInsertion_5 : decode cJ40_balanceInsertion 5 = .ok (.aload_n 1, 1) := dk_43 (dk_at dksJ40_balanceInsertion_0 5 rfl rfl)
theorem dJ40_balanceInsertion_6 : decode cJ40_balanceInsertion 6 = .ok (.getfield 9, 3) := dk_180 0 9 (dk_at dksJ40_balanceInsertion_0 6 rfl rfl)
theorem dJ40_balanceInsertion_9 : decode cJ40_balanceInsertion 9 = .ok (.dup, 1) := dk_89 (dk_at dksJ40_balanceInsertion_0 9 rfl rfl)
theorem dJ40_balanceInsertion_10 : decode cJ40_balanceInsertion 10 = .ok (.astore_n 2, 1) := dk_77 (dk_at dksJ40_balanceInsertion_0 10 rfl rfl)
theorem dJ40_balanceInsertion_11 : decode cJ40_balanceInsertion 11 = .ok (.ifnonnull 10, 3) := dk_199 0 10 (dk_at dksJ40_balanceInsertion_0 11 rfl rfl)
theorem dJ40_balanceInsertion_14 : decode cJ40_balanceInsertion 14 = .ok (.aload_n 1, 1) := dk_43 (dk_at dksJ40_balanceInsertion_0 14 rfl rfl)
theorem dJ40_balanceInsertion_15 : decode cJ40_balanceInsertion 15 = .ok (.iconst 0, 1) := dk_3 (dk_at dksJ40_balanceInsertion_0 15 rfl rfl)
theorem dJ40_balanceInsertion_16 : decode cJ40_balanceInsertion 16 = .ok (.putfield 93, 3) := dk_181 0 93 (dk_at dksJ40_balanceInsertion_0 16 rfl rfl)
theorem dJ40_balanceInsertion_19 : decode cJ40_balanceInsertion 19 = .ok (.aload_n 1, 1) := dk_43 (dk_at dksJ40_balanceInsertion_0 19 rfl rfl)
theorem dJ40_balanceInsertion_20 : decode cJ40_balanceInsertion 20 = .ok (.areturn, 1) := dk_176 (dk_at dksJ40_balanceInsertion_0 20 rfl rfl)
theorem dJ40_balanceInsertion_21 : decode cJ40_balanceInsertion 21 = .ok (.aload_n 2, 1) := dk_44 (dk_at dksJ40_balanceInsertion_0 21 rfl rfl)
theorem dJ40_balanceInsertion_22 : decode cJ40_balanceInsertion 22 = .ok (.getfield 93, 3) := dk_180 0 93 (dk_at dksJ40_balanceInsertion_1 0 rfl rfl)
theorem dJ40_balanceInsertion_25 : decode cJ40_balanceInsertion 25 = .ok (.ifCond .eq 12, 3) := dk_153 0 12 (dk_at dksJ40_balanceInsertion_1 3 rfl rfl)
theorem dJ40_balanceInsertion_28 : decode cJ40_balanceInsertion 28 = .ok (.aload_n 2, 1) := dk_44 (dk_at dksJ40_balanceInsertion_1 6 rfl rfl)
theorem dJ40_balanceInsertion_29 : decode cJ40_balanceInsertion 29 = .ok (.getfield 9, 3) := dk_180 0 9 (dk_at dksJ40_balanceInsertion_1 7 rfl rfl)
theorem dJ40_balanceInsertion_32 : decode cJ40_balanceInsertion 32 = .ok (.dup, 1) := dk_89 (dk_at dksJ40_balanceInsertion_1 10 rfl rfl)
theorem dJ40_balanceInsertion_33 : decode cJ40_balanceInsertion 33 = .ok (.astore_n 3, 1) := dk_78 (dk_at dksJ40_balanceInsertion_1 11 rfl rfl)
theorem dJ40_balanceInsertion_34 : decode cJ40_balanceInsertion 34 = .ok (.ifnonnull 5, 3) := dk_199 0 5 (dk_at dksJ40_balanceInsertion_1 12 rfl rfl)
theorem dJ40_balanceInsertion_37 : decode cJ40_balanceInsertion 37 = .ok (.aload_n 0, 1) := dk_42 (dk_at dksJ40_balanceInsertion_1 15 rfl rfl)
theorem dJ40_balanceInsertion_38 : decode cJ40_balanceInsertion 38 = .ok (.areturn, 1) := dk_176 (dk_at dksJ40_balanceInsertion_1 16 rfl rfl)
theorem dJ40_balanceInsertion_39 : decode cJ40_balanceInsertion 39 = .ok (.aload_n 2, 1) := dk_44 (dk_at dksJ40_balanceInsertion_1 17 rfl rfl)
theorem dJ40_balanceInsertion_40 : decode cJ40_balanceInsertion 40 = .ok (.aload_n 3, 1) := dk_45 (dk_at dksJ40_balanceInsertion_1 18 rfl rfl)
theorem dJ40_balanceInsertion_41 : decode cJ40_balanceInsertion 41 = .ok (.getfield 39, 3) := dk_180 0 39 (dk_at dksJ40_balanceInsertion_1 19 rfl rfl)
theorem dJ40_balanceInsertion_44 : decode cJ40_balanceInsertion 44 = .ok (.dup, 1) := dk_89 (dk_at dksJ40_balanceInsertion_1 22 rfl rfl)
theorem dJ40_balanceInsertion_45 : decode cJ40_balanceInsertion 45 = .ok (.astore 4, 2) := dk_58 4 (dk_at dksJ40_balanceInsertion_2 0 rfl rfl)
theorem dJ40_balanceInsertion_47 : decode cJ40_balanceInsertion 47 = .ok (.if_acmp .ne 103, 3) := dk_166 0 103 (dk_at dksJ40_balanceInsertion_2 2 rfl rfl)
theorem dJ40_balanceInsertion_50 : decode cJ40_balanceInsertion 50 = .ok (.aload_n 3, 1) := dk_45 (dk_at dksJ40_balanceInsertion_2 5 rfl rfl)
theorem dJ40_balanceInsertion_51 : decode cJ40_balanceInsertion 51 = .ok (.getfield 42, 3) := dk_180 0 42 (dk_at dksJ40_balanceInsertion_2 6 rfl rfl)
theorem dJ40_balanceInsertion_54 : decode cJ40_balanceInsertion 54 = .ok (.dup, 1) := dk_89 (dk_at dksJ40_balanceInsertion_2 9 rfl rfl)
theorem dJ40_balanceInsertion_55 : decode cJ40_balanceInsertion 55 = .ok (.astore 5, 2) := dk_58 5 (dk_at dksJ40_balanceInsertion_2 10 rfl rfl)
theorem dJ40_balanceInsertion_57 : decode cJ40_balanceInsertion 57 = .ok (.ifnull 32, 3) := dk_198 0 32 (dk_at dksJ40_balanceInsertion_2 12 rfl rfl)
theorem dJ40_balanceInsertion_60 : decode cJ40_balanceInsertion 60 = .ok (.aload 5, 2) := dk_25 5 (dk_at dksJ40_balanceInsertion_2 15 rfl rfl)
theorem dJ40_balanceInsertion_62 : decode cJ40_balanceInsertion 62 = .ok (.getfield 93, 3) := dk_180 0 93 (dk_at dksJ40_balanceInsertion_2 17 rfl rfl)
theorem dJ40_balanceInsertion_65 : decode cJ40_balanceInsertion 65 = .ok (.ifCond .eq 24, 3) := dk_153 0 24 (dk_at dksJ40_balanceInsertion_2 20 rfl rfl)
theorem dJ40_balanceInsertion_68 : decode cJ40_balanceInsertion 68 = .ok (.aload 5, 2) := dk_25 5 (dk_at dksJ40_balanceInsertion_3 0 rfl rfl)
theorem dJ40_balanceInsertion_70 : decode cJ40_balanceInsertion 70 = .ok (.iconst 0, 1) := dk_3 (dk_at dksJ40_balanceInsertion_3 2 rfl rfl)
theorem dJ40_balanceInsertion_71 : decode cJ40_balanceInsertion 71 = .ok (.putfield 93, 3) := dk_181 0 93 (dk_at dksJ40_balanceInsertion_3 3 rfl rfl)
theorem dJ40_balanceInsertion_74 : decode cJ40_balanceInsertion 74 = .ok (.aload_n 2, 1) := dk_44 (dk_at dksJ40_balanceInsertion_3 6 rfl rfl)
theorem dJ40_balanceInsertion_75 : decode cJ40_balanceInsertion 75 = .ok (.iconst 0, 1) := dk_3 (dk_at dksJ40_balanceInsertion_3 7 rfl rfl)
theorem dJ40_balanceInsertion_76 : decode cJ40_balanceInsertion 76 = .ok (.putfield 93, 3) := dk_181 0 93 (dk_at dksJ40_balanceInsertion_3 8 rfl rfl)
theorem dJ40_balanceInsertion_79 : decode cJ40_balanceInsertion 79 = .ok (.aload_n 3, 1) := dk_45 (dk_at dksJ40_balanceInsertion_3 11 rfl rfl)
theorem dJ40_balanceInsertion_80 : decode cJ40_balanceInsertion 80 = .ok (.iconst 1, 1) := dk_4 (dk_at dksJ40_balanceInsertion_3 12 rfl rfl)
theorem dJ40_balanceInsertion_81 : decode cJ40_balanceInsertion 81 = .ok (.putfield 93, 3) := dk_181 0 93 (dk_at dksJ40_balanceInsertion_3 13 rfl rfl)
theorem dJ40_balanceInsertion_84 : decode cJ40_balanceInsertion 84 = .ok (.aload_n 3, 1) := dk_45 (dk_at dksJ40_balanceInsertion_3 16 rfl rfl)
theorem dJ40_balanceInsertion_85 : decode cJ40_balanceInsertion 85 = .ok (.astore_n 1, 1) := dk_76 (dk_at dksJ40_balanceInsertion_3 17 rfl rfl)
theorem dJ40_balanceInsertion_86 : decode cJ40_balanceInsertion 86 = .ok (.goto (-81), 3) := dk_167 255 175 (dk_at dksJ40_balanceInsertion_3 18 rfl rfl)
theorem dJ40_balanceInsertion_89 : decode cJ40_balanceInsertion 89 = .ok (.aload_n 1, 1) := dk_43 (dk_at dksJ40_balanceInsertion_3 21 rfl rfl)
theorem dJ40_balanceInsertion_90 : decode cJ40_balanceInsertion 90 = .ok (.aload_n 2, 1) := dk_44 (dk_at dksJ40_balanceInsertion_3 22 rfl rfl)
theorem dJ40_balanceInsertion_91 : decode cJ40_balanceInsertion 91 = .ok (.getfield 42, 3) := dk_180 0 42 (dk_at dksJ40_balanceInsertion_4 0 rfl rfl)
theorem dJ40_balanceInsertion_94 : decode cJ40_balanceInsertion 94 = .ok (.if_acmp .ne 29, 3) := dk_166 0 29 (dk_at dksJ40_balanceInsertion_4 3 rfl rfl)
theorem dJ40_balanceInsertion_97 : decode cJ40_balanceInsertion 97 = .ok (.aload_n 0, 1) := dk_42 (dk_at dksJ40_balanceInsertion_4 6 rfl rfl)
theorem dJ40_balanceInsertion_98 : decode cJ40_balanceInsertion 98 = .ok (.aload_n 2, 1) := dk_44 (dk_at dksJ40_balanceInsertion_4 7 rfl rfl)
theorem dJ40_balanceInsertion_99 : decode cJ40_balanceInsertion 99 = .ok (.dup, 1) := dk_89 (dk_at dksJ40_balanceInsertion_4 8 rfl rfl)
theorem dJ40_balanceInsertion_100 : decode cJ40_balanceInsertion 100 = .ok (.astore_n 1, 1) := dk_76 (dk_at dksJ40_balanceInsertion_4 9 rfl rfl)
theorem dJ40_balanceInsertion_101 : decode cJ40_balanceInsertion 101 = .ok (.invokestatic 130, 3) := dk_184 0 130 (dk_at dksJ40_balanceInsertion_4 10 rfl rfl)
theorem dJ40_balanceInsertion_104 : decode cJ40_balanceInsertion 104 = .ok (.astore_n 0, 1) := dk_75 (dk_at dksJ40_balanceInsertion_4 13 rfl rfl)
theorem dJ40_balanceInsertion_105 : decode cJ40_balanceInsertion 105 = .ok (.aload_n 1, 1) := dk_43 (dk_at dksJ40_balanceInsertion_4 14 rfl rfl)
theorem dJ40_balanceInsertion_106 : decode cJ40_balanceInsertion 106 = .ok (.getfield 9, 3) := dk_180 0 9 (dk_at dksJ40_balanceInsertion_4 15 rfl rfl)
theorem dJ40_balanceInsertion_109 : decode cJ40_balanceInsertion 109 = .ok (.dup, 1) := dk_89 (dk_at dksJ40_balanceInsertion_4 18 rfl rfl)
theorem dJ40_balanceInsertion_110 : decode cJ40_balanceInsertion 110 = .ok (.astore_n 2, 1) := dk_77 (dk_at dksJ40_balanceInsertion_4 19 rfl rfl)
theorem dJ40_balanceInsertion_111 : decode cJ40_balanceInsertion 111 = .ok (.ifnonnull 7, 3) := dk_199 0 7 (dk_at dksJ40_balanceInsertion_4 20 rfl rfl)
theorem dJ40_balanceInsertion_114 : decode cJ40_balanceInsertion 114 = .ok (.aconst_null, 1) := dk_1 (dk_at dksJ40_balanceInsertion_4 23 rfl rfl)
theorem dJ40_balanceInsertion_115 : decode cJ40_balanceInsertion 115 = .ok (.goto 7, 3) := dk_167 0 7 (dk_at dksJ40_balanceInsertion_5 0 rfl rfl)
theorem dJ40_balanceInsertion_118 : decode cJ40_balanceInsertion 118 = .ok (.aload_n 2, 1) := dk_44 (dk_at dksJ40_balanceInsertion_5 3 rfl rfl)
theorem dJ40_balanceInsertion_119 : decode cJ40_balanceInsertion 119 = .ok (.getfield 9, 3) := dk_180 0 9 (dk_at dksJ40_balanceInsertion_5 4 rfl rfl)
theorem dJ40_balanceInsertion_122 : decode cJ40_balanceInsertion 122 = .ok (.astore_n 3, 1) := dk_78 (dk_at dksJ40_balanceInsertion_5 7 rfl rfl)
theorem dJ40_balanceInsertion_123 : decode cJ40_balanceInsertion 123 = .ok (.aload_n 2, 1) := dk_44 (dk_at dksJ40_balanceInsertion_5 8 rfl rfl)
theorem dJ40_balanceInsertion_124 : decode cJ40_balanceInsertion 124 = .ok (.ifnull (-119), 3) := dk_198 255 137 (dk_at dksJ40_balanceInsertion_5 9 rfl rfl)
theorem dJ40_balanceInsertion_127 : decode cJ40_balanceInsertion 127 = .ok (.aload_n 2, 1) := dk_44 (dk_at dksJ40_balanceInsertion_5 12 rfl rfl)
theorem dJ40_balanceInsertion_128 : decode cJ40_balanceInsertion 128 = .ok (.iconst 0, 1) := dk_3 (dk_at dksJ40_balanceInsertion_5 13 rfl rfl)
theorem dJ40_balanceInsertion_129 : decode cJ40_balanceInsertion 129 = .ok (.putfield 93, 3) := dk_181 0 93 (dk_at dksJ40_balanceInsertion_5 14 rfl rfl)
theorem dJ40_balanceInsertion_132 : decode cJ40_balanceInsertion 132 = .ok (.aload_n 3, 1) := dk_45 (dk_at dksJ40_balanceInsertion_5 17 rfl rfl)
theorem dJ40_balanceInsertion_133 : decode cJ40_balanceInsertion 133 = .ok (.ifnull (-128), 3) := dk_198 255 128 (dk_at dksJ40_balanceInsertion_5 18 rfl rfl)
theorem dJ40_balanceInsertion_136 : decode cJ40_balanceInsertion 136 = .ok (.aload_n 3, 1) := dk_45 (dk_at dksJ40_balanceInsertion_5 21 rfl rfl)
theorem dJ40_balanceInsertion_137 : decode cJ40_balanceInsertion 137 = .ok (.iconst 1, 1) := dk_4 (dk_at dksJ40_balanceInsertion_5 22 rfl rfl)
theorem dJ40_balanceInsertion_138 : decode cJ40_balanceInsertion 138 = .ok (.putfield 93, 3) := dk_181 0 93 (dk_at dksJ40_balanceInsertion_6 0 rfl rfl)
theorem dJ40_balanceInsertion_141 : decode cJ40_balanceInsertion 141 = .ok (.aload_n 0, 1) := dk_42 (dk_at dksJ40_balanceInsertion_6 3 rfl rfl)
theorem dJ40_balanceInsertion_142 : decode cJ40_balanceInsertion 142 = .ok (.aload_n 3, 1) := dk_45 (dk_at dksJ40_balanceInsertion_6 4 rfl rfl)
theorem dJ40_balanceInsertion_143 : decode cJ40_balanceInsertion 143 = .ok (.invokestatic 133, 3) := dk_184 0 133 (dk_at dksJ40_balanceInsertion_6 5 rfl rfl)
theorem dJ40_balanceInsertion_146 : decode cJ40_balanceInsertion 146 = .ok (.astore_n 0, 1) := dk_75 (dk_at dksJ40_balanceInsertion_6 8 rfl rfl)
theorem dJ40_balanceInsertion_147 : decode cJ40_balanceInsertion 147 = .ok (.goto (-142), 3) := dk_167 255 114 (dk_at dksJ40_balanceInsertion_6 9 rfl rfl)
theorem dJ40_balanceInsertion_150 : decode cJ40_balanceInsertion 150 = .ok (.aload 4, 2) := dk_25 4 (dk_at dksJ40_balanceInsertion_6 12 rfl rfl)
theorem dJ40_balanceInsertion_152 : decode cJ40_balanceInsertion 152 = .ok (.ifnull 32, 3) := dk_198 0 32 (dk_at dksJ40_balanceInsertion_6 14 rfl rfl)
theorem dJ40_balanceInsertion_155 : decode cJ40_balanceInsertion 155 = .ok (.aload 4, 2) := dk_25 4 (dk_at dksJ40_balanceInsertion_6 17 rfl rfl)
theorem dJ40_balanceInsertion_157 : decode cJ40_balanceInsertion 157 = .ok (.getfield 93, 3) := dk_180 0 93 (dk_at dksJ40_balanceInsertion_6 19 rfl rfl)
theorem dJ40_balanceInsertion_160 : decode cJ40_balanceInsertion 160 = .ok (.ifCond .eq 24, 3) := dk_153 0 24 (dk_at dksJ40_balanceInsertion_7 0 rfl rfl)
theorem dJ40_balanceInsertion_163 : decode cJ40_balanceInsertion 163 = .ok (.aload 4, 2) := dk_25 4 (dk_at dksJ40_balanceInsertion_7 3 rfl rfl)
theorem dJ40_balanceInsertion_165 : decode cJ40_balanceInsertion 165 = .ok (.iconst 0, 1) := dk_3 (dk_at dksJ40_balanceInsertion_7 5 rfl rfl)
theorem dJ40_balanceInsertion_166 : decode cJ40_balanceInsertion 166 = .ok (.putfield 93, 3) := dk_181 0 93 (dk_at dksJ40_balanceInsertion_7 6 rfl rfl)
theorem dJ40_balanceInsertion_169 : decode cJ40_balanceInsertion 169 = .ok (.aload_n 2, 1) := dk_44 (dk_at dksJ40_balanceInsertion_7 9 rfl rfl)
theorem dJ40_balanceInsertion_170 : decode cJ40_balanceInsertion 170 = .ok (.iconst 0, 1) := dk_3 (dk_at dksJ40_balanceInsertion_7 10 rfl rfl)
theorem dJ40_balanceInsertion_171 : decode cJ40_balanceInsertion 171 = .ok (.putfield 93, 3) := dk_181 0 93 (dk_at dksJ40_balanceInsertion_7 11 rfl rfl)
theorem dJ40_balanceInsertion_174 : decode cJ40_balanceInsertion 174 = .ok (.aload_n 3, 1) := dk_45 (dk_at dksJ40_balanceInsertion_7 14 rfl rfl)
theorem dJ40_balanceInsertion_175 : decode cJ40_balanceInsertion 175 = .ok (.iconst 1, 1) := dk_4 (dk_at dksJ40_balanceInsertion_7 15 rfl rfl)
theorem dJ40_balanceInsertion_176 : decode cJ40_balanceInsertion 176 = .ok (.putfield 93, 3) := dk_181 0 93 (dk_at dksJ40_balanceInsertion_7 16 rfl rfl)
theorem dJ40_balanceInsertion_179 : decode cJ40_balanceInsertion 179 = .ok (.aload_n 3, 1) := dk_45 (dk_at dksJ40_balanceInsertion_7 19 rfl rfl)
theorem dJ40_balanceInsertion_180 : decode cJ40_balanceInsertion 180 = .ok (.astore_n 1, 1) := dk_76 (dk_at dksJ40_balanceInsertion_7 20 rfl rfl)
theorem dJ40_balanceInsertion_181 : decode cJ40_balanceInsertion 181 = .ok (.goto (-176), 3) := dk_167 255 80 (dk_at dksJ40_balanceInsertion_7 21 rfl rfl)
theorem dJ40_balanceInsertion_184 : decode cJ40_balanceInsertion 184 = .ok (.aload_n 1, 1) := dk_43 (dk_at dksJ40_balanceInsertion_8 0 rfl rfl)
theorem dJ40_balanceInsertion_185 : decode cJ40_balanceInsertion 185 = .ok (.aload_n 2, 1) := dk_44 (dk_at dksJ40_balanceInsertion_8 1 rfl rfl)
theorem dJ40_balanceInsertion_186 : decode cJ40_balanceInsertion 186 = .ok (.getfield 39, 3) := dk_180 0 39 (dk_at dksJ40_balanceInsertion_8 2 rfl rfl)
theorem dJ40_balanceInsertion_189 : decode cJ40_balanceInsertion 189 = .ok (.if_acmp .ne 29, 3) := dk_166 0 29 (dk_at dksJ40_balanceInsertion_8 5 rfl rfl)
theorem dJ40_balanceInsertion_192 : decode cJ40_balanceInsertion 192 = .ok (.aload_n 0, 1) := dk_42 (dk_at dksJ40_balanceInsertion_8 8 rfl rfl)
theorem dJ40_balanceInsertion_193 : decode cJ40_balanceInsertion 193 = .ok (.aload_n 2, 1) := dk_44 (dk_at dksJ40_balanceInsertion_8 9 rfl rfl)
theorem dJ40_balanceInsertion_194 : decode cJ40_balanceInsertion 194 = .ok (.dup, 1) := dk_89 (dk_at dksJ40_balanceInsertion_8 10 rfl rfl)
theorem dJ40_balanceInsertion_195 : decode cJ40_balanceInsertion 195 = .ok (.astore_n 1, 1) := dk_76 (dk_at dksJ40_balanceInsertion_8 11 rfl rfl)
theorem dJ40_balanceInsertion_196 : decode cJ40_balanceInsertion 196 = .ok (.invokestatic 133, 3) := dk_184 0 133 (dk_at dksJ40_balanceInsertion_8 12 rfl rfl)
theorem dJ40_balanceInsertion_199 : decode cJ40_balanceInsertion 199 = .ok (.astore_n 0, 1) := dk_75 (dk_at dksJ40_balanceInsertion_8 15 rfl rfl)
theorem dJ40_balanceInsertion_200 : decode cJ40_balanceInsertion 200 = .ok (.aload_n 1, 1) := dk_43 (dk_at dksJ40_balanceInsertion_8 16 rfl rfl)
theorem dJ40_balanceInsertion_201 : decode cJ40_balanceInsertion 201 = .ok (.getfield 9, 3) := dk_180 0 9 (dk_at dksJ40_balanceInsertion_8 17 rfl rfl)
theorem dJ40_balanceInsertion_204 : decode cJ40_balanceInsertion 204 = .ok (.dup, 1) := dk_89 (dk_at dksJ40_balanceInsertion_8 20 rfl rfl)
theorem dJ40_balanceInsertion_205 : decode cJ40_balanceInsertion 205 = .ok (.astore_n 2, 1) := dk_77 (dk_at dksJ40_balanceInsertion_8 21 rfl rfl)
theorem dJ40_balanceInsertion_206 : decode cJ40_balanceInsertion 206 = .ok (.ifnonnull 7, 3) := dk_199 0 7 (dk_at dksJ40_balanceInsertion_9 0 rfl rfl)
theorem dJ40_balanceInsertion_209 : decode cJ40_balanceInsertion 209 = .ok (.aconst_null, 1) := dk_1 (dk_at dksJ40_balanceInsertion_9 3 rfl rfl)
theorem dJ40_balanceInsertion_210 : decode cJ40_balanceInsertion 210 = .ok (.goto 7, 3) := dk_167 0 7 (dk_at dksJ40_balanceInsertion_9 4 rfl rfl)
theorem dJ40_balanceInsertion_213 : decode cJ40_balanceInsertion 213 = .ok (.aload_n 2, 1) := dk_44 (dk_at dksJ40_balanceInsertion_9 7 rfl rfl)
theorem dJ40_balanceInsertion_214 : decode cJ40_balanceInsertion 214 = .ok (.getfield 9, 3) := dk_180 0 9 (dk_at dksJ40_balanceInsertion_9 8 rfl rfl)
theorem dJ40_balanceInsertion_217 : decode cJ40_balanceInsertion 217 = .ok (.astore_n 3, 1) := dk_78 (dk_at dksJ40_balanceInsertion_9 11 rfl rfl)
theorem dJ40_balanceInsertion_218 : decode cJ40_balanceInsertion 218 = .ok (.aload_n 2, 1) := dk_44 (dk_at dksJ40_balanceInsertion_9 12 rfl rfl)
theorem dJ40_balanceInsertion_219 : decode cJ40_balanceInsertion 219 = .ok (.ifnull (-214), 3) := dk_198 255 42 (dk_at dksJ40_balanceInsertion_9 13 rfl rfl)
theorem dJ40_balanceInsertion_222 : decode cJ40_balanceInsertion 222 = .ok (.aload_n 2, 1) := dk_44 (dk_at dksJ40_balanceInsertion_9 16 rfl rfl)
theorem dJ40_balanceInsertion_223 : decode cJ40_balanceInsertion 223 = .ok (.iconst 0, 1) := dk_3 (dk_at dksJ40_balanceInsertion_9 17 rfl rfl)
theorem dJ40_balanceInsertion_224 : decode cJ40_balanceInsertion 224 = .ok (.putfield 93, 3) := dk_181 0 93 (dk_at dksJ40_balanceInsertion_9 18 rfl rfl)
theorem dJ40_balanceInsertion_227 : decode cJ40_balanceInsertion 227 = .ok (.aload_n 3, 1) := dk_45 (dk_at dksJ40_balanceInsertion_9 21 rfl rfl)
theorem dJ40_balanceInsertion_228 : decode cJ40_balanceInsertion 228 = .ok (.ifnull (-223), 3) := dk_198 255 33 (dk_at dksJ40_balanceInsertion_10 0 rfl rfl)
theorem dJ40_balanceInsertion_231 : decode cJ40_balanceInsertion 231 = .ok (.aload_n 3, 1) := dk_45 (dk_at dksJ40_balanceInsertion_10 3 rfl rfl)
theorem dJ40_balanceInsertion_232 : decode cJ40_balanceInsertion 232 = .ok (.iconst 1, 1) := dk_4 (dk_at dksJ40_balanceInsertion_10 4 rfl rfl)
theorem dJ40_balanceInsertion_233 : decode cJ40_balanceInsertion 233 = .ok (.putfield 93, 3) := dk_181 0 93 (dk_at dksJ40_balanceInsertion_10 5 rfl rfl)
theorem dJ40_balanceInsertion_236 : decode cJ40_balanceInsertion 236 = .ok (.aload_n 0, 1) := dk_42 (dk_at dksJ40_balanceInsertion_10 8 rfl rfl)
theorem dJ40_balanceInsertion_237 : decode cJ40_balanceInsertion 237 = .ok (.aload_n 3, 1) := dk_45 (dk_at dksJ40_balanceInsertion_10 9 rfl rfl)
theorem dJ40_balanceInsertion_238 : decode cJ40_balanceInsertion 238 = .ok (.invokestatic 130, 3) := dk_184 0 130 (dk_at dksJ40_balanceInsertion_10 10 rfl rfl)
theorem dJ40_balanceInsertion_241 : decode cJ40_balanceInsertion 241 = .ok (.astore_n 0, 1) := dk_75 (dk_at dksJ40_balanceInsertion_10 13 rfl rfl)
theorem dJ40_balanceInsertion_242 : decode cJ40_balanceInsertion 242 = .ok (.goto (-237), 3) := dk_167 255 19 (dk_at dksJ40_balanceInsertion_10 14 rfl rfl)
abbrev cJ40_rotateLeft : ByteArray := prog_70_method_12_code
def yJ40_rotateLeft : MethodName := ⟨RJ40, "rotateLeft", "(Ljava/util/HashMap$TreeNode;Ljava/util/HashMap$TreeNode;)Ljava/util/HashMap$TreeNode;"⟩
def dkwJ40_rotateLeft_3 : List UInt8 := [181, 0, 39, 167, 0, 8, 45, 44, 181, 0, 42, 44, 43, 181, 0, 39, 43, 44, 181, 0, 9, 42, 176]
abbrev dktJ40_rotateLeft_3 : List UInt8 := dkwJ40_rotateLeft_3 ++ []
def dkwJ40_rotateLeft_2 : List UInt8 := [199, 0, 13, 44, 89, 75, 3, 181, 0, 93, 167, 0, 24, 45, 180, 0, 39, 43, 166, 0, 11, 45, 44]
abbrev dktJ40_rotateLeft_2 : List UInt8 := dkwJ40_rotateLeft_2 ++ dktJ40_rotateLeft_3
def dkwJ40_rotateLeft_1 : List UInt8 := [58, 4, 198, 0, 9, 25, 4, 43, 181, 0, 9, 44, 43, 180, 0, 9, 90, 181, 0, 9, 89, 78]
abbrev dktJ40_rotateLeft_1 : List UInt8 := dkwJ40_rotateLeft_1 ++ dktJ40_rotateLeft_2
def dkwJ40_rotateLeft_0 : List UInt8 := [43, 198, 0, 88, 43, 180, 0, 42, 89, 77, 198, 0, 79, 43, 44, 180, 0, 39, 90, 181, 0, 42, 89]
abbrev dktJ40_rotateLeft_0 : List UInt8 := dkwJ40_rotateLeft_0 ++ dktJ40_rotateLeft_1
theorem dksJ40_rotateLeft_0 : cJ40_rotateLeft.data.toList.drop 0 = dktJ40_rotateLeft_0 := by decide +kernel
theorem dksJ40_rotateLeft_1 : cJ40_rotateLeft.data.toList.drop 23 = dktJ40_rotateLeft_1 := dk_seg dksJ40_rotateLeft_0 23 rfl rfl
theorem dksJ40_rotateLeft_2 : cJ40_rotateLeft.data.toList.drop 45 = dktJ40_rotateLeft_2 := dk_seg dksJ40_rotateLeft_1 22 rfl rfl
theorem dksJ40_rotateLeft_3 : cJ40_rotateLeft.data.toList.drop 68 = dktJ40_rotateLeft_3 := dk_seg dksJ40_rotateLeft_2 23 rfl rfl
theorem dJ40_rotateLeft_0 : decode cJ40_rotateLeft 0 = .ok (.aload_n 1, 1) := dk_43 (dk_at dksJ40_rotateLeft_0 0 rfl rfl)
theorem dJ40_rotateLeft_1 : decode cJ40_rotateLeft 1 = .ok (.ifnull 88, 3) := dk_198 0 88 (dk_at dksJ40_rotateLeft_0 1 rfl rfl)
theorem dJ40_rotateLeft_4 : decode cJ40_rotateLeft 4 = .ok (.aload_n 1, 1) := dk_43 (dk_at dksJ40_rotateLeft_0 4 rfl rfl)
theorem dJ40_rotateLeft_5 : decode cJ40_rotateLeft 5 = .ok (.getfield 42, 3) := dk_180 0 42 (dk_at dksJ40_rotateLeft_0 5 rfl rfl)
theorem dJ40_rotateLeft_8 : decode cJ40_rotateLeft 8 = .ok (.dup, 1) := dk_89 (dk_at dksJ40_rotateLeft_0 8 rfl rfl)
theorem dJ40_rotateLeft_9 : decode cJ40_rotateLeft 9 = .ok (.astore_n 2, 1) := dk_77 (dk_at dksJ40_rotateLeft_0 9 rfl rfl)
theorem dJ40_rotateLeft_10 : decode cJ40_rotateLeft 10 = .ok (.ifnull 79, 3) := dk_198 0 79 (dk_at dksJ40_rotateLeft_0 10 rfl rfl)
theorem dJ40_rotateLeft_13 : decode cJ40_rotateLeft 13 = .ok (.aload_n 1, 1) := dk_43 (dk_at dksJ40_rotateLeft_0 13 rfl rfl)
theorem dJ40_rotateLeft_14 : decode cJ40_rotateLeft 14 = .ok (.aload_n 2, 1) := dk_44 (dk_at dksJ40_rotateLeft_0 14 rfl rfl)
theorem dJ40_rotateLeft_15 : decode cJ40_rotateLeft 15 = .ok (.getfield 39, 3) := dk_180 0 39 (dk_at dksJ40_rotateLeft_0 15 rfl rfl)
theorem dJ40_rotateLeft_18 : decode cJ40_rotateLeft 18 = .ok (.dup_x1, 1) := dk_90 (dk_at dksJ40_rotateLeft_0 18 rfl rfl)
theorem dJ40_rotateLeft_19 : decode cJ40_rotateLeft 19 = .ok (.putfield 42, 3) := dk_181 0 42 (dk_at dksJ40_rotateLeft_0 19 rfl rfl)
theorem dJ40_rotateLeft_22 : decode cJ40_rotateLeft 22 = .ok (.dup, 1) := dk_89 (dk_at dksJ40_rotateLeft_0 22 rfl rfl)
theorem dJ40_rotateLeft_23 : decode cJ40_rotateLeft 23 = .ok (.astore 4, 2) := dk_58 4 (dk_at dksJ40_rotateLeft_1 0 rfl rfl)
theorem dJ40_rotateLeft_25 : decode cJ40_rotateLeft 25 = .ok (.ifnull 9, 3) := dk_198 0 9 (dk_at dksJ40_rotateLeft_1 2 rfl rfl)
theorem dJ40_rotateLeft_28 : decode cJ40_rotateLeft 28 = .ok (.aload 4, 2) := dk_25 4 (dk_at dksJ40_rotateLeft_1 5 rfl rfl)
theorem dJ40_rotateLeft_30 : decode cJ40_rotateLeft 30 = .ok (.aload_n 1, 1) := dk_43 (dk_at dksJ40_rotateLeft_1 7 rfl rfl)
theorem dJ40_rotateLeft_31 : decode cJ40_rotateLeft 31 = .ok (.putfield 9, 3) := dk_181 0 9 (dk_at dksJ40_rotateLeft_1 8 rfl rfl)
theorem dJ40_rotateLeft_34 : decode cJ40_rotateLeft 34 = .ok (.aload_n 2, 1) := dk_44 (dk_at dksJ40_rotateLeft_1 11 rfl rfl)
theorem dJ40_rotateLeft_35 : decode cJ40_rotateLeft 35 = .ok (.aload_n 1, 1) := dk_43 (dk_at dksJ40_rotateLeft_1 12 rfl rfl)
theorem dJ40_rotateLeft_36 : decode cJ40_rotateLeft 36 = .ok (.getfield 9, 3) := dk_180 0 9 (dk_at dksJ40_rotateLeft_1 13 rfl rfl)
theorem dJ40_rotateLeft_39 : decode cJ40_rotateLeft 39 = .ok (.dup_x1, 1) := dk_90 (dk_at dksJ40_rotateLeft_1 16 rfl rfl)
theorem dJ40_rotateLeft_40 : decode cJ40_rotateLeft 40 = .ok (.putfield 9, 3) := dk_181 0 9 (dk_at dksJ40_rotateLeft_1 17 rfl rfl)
theorem dJ40_rotateLeft_43 : decode cJ40_rotateLeft 43 = .ok (.dup, 1) := dk_89 (dk_at dksJ40_rotateLeft_1 20 rfl rfl)
theorem dJ40_rotateLeft_44 : decode cJ40_rotateLeft 44 = .ok (.astore_n 3, 1) := dk_78 (dk_at dksJ40_rotateLeft_1 21 rfl rfl)
theorem dJ40_rotateLeft_45 : decode cJ40_rotateLeft 45 = .ok (.ifnonnull 13, 3) := dk_199 0 13 (dk_at dksJ40_rotateLeft_2 0 rfl rfl)
theorem dJ40_rotateLeft_48 : decode cJ40_rotateLeft 48 = .ok (.aload_n 2, 1) := dk_44 (dk_at dksJ40_rotateLeft_2 3 rfl rfl)
theorem dJ40_rotateLeft_49 : decode cJ40_rotateLeft 49 = .ok (.dup, 1) := dk_89 (dk_at dksJ40_rotateLeft_2 4 rfl rfl)
theorem dJ40_rotateLeft_50 : decode cJ40_rotateLeft 50 = .ok (.astore_n 0, 1) := dk_75 (dk_at dksJ40_rotateLeft_2 5 rfl rfl)
theorem dJ40_rotateLeft_51 : decode cJ40_rotateLeft 51 = .ok (.iconst 0, 1) := dk_3 (dk_at dksJ40_rotateLeft_2 6 rfl rfl)
theorem dJ40_rotateLeft_52 : decode cJ40_rotateLeft 52 = .ok (.putfield 93, 3) := dk_181 0 93 (dk_at dksJ40_rotateLeft_2 7 rfl rfl)
theorem dJ40_rotateLeft_55 : decode cJ40_rotateLeft 55 = .ok (.goto 24, 3) := dk_167 0 24 (dk_at dksJ40_rotateLeft_2 10 rfl rfl)
theorem dJ40_rotateLeft_58 : decode cJ40_rotateLeft 58 = .ok (.aload_n 3, 1) := dk_45 (dk_at dksJ40_rotateLeft_2 13 rfl rfl)
theorem dJ40_rotateLeft_59 : decode cJ40_rotateLeft 59 = .ok (.getfield 39, 3) := dk_180 0 39 (dk_at dksJ40_rotateLeft_2 14 rfl rfl)
theorem dJ40_rotateLeft_62 : decode cJ40_rotateLeft 62 = .ok (.aload_n 1, 1) := dk_43 (dk_at dksJ40_rotateLeft_2 17 rfl rfl)
theorem dJ40_rotateLeft_63 : decode cJ40_rotateLeft 63 = .ok (.if_acmp .ne 11, 3) := dk_166 0 11 (dk_at dksJ40_rotateLeft_2 18 rfl rfl)
theorem dJ40_rotateLeft_66 : decode cJ40_rotateLeft 66 = .ok (.aload_n 3, 1) := dk_45 (dk_at dksJ40_rotateLeft_2 21 rfl rfl)
theorem dJ40_rotateLeft_67 : decode cJ40_rotateLeft 67 = .ok (.aload_n 2, 1) := dk_44 (dk_at dksJ40_rotateLeft_2 22 rfl rfl)
theorem dJ40_rotateLeft_68 : decode cJ40_rotateLeft 68 = .ok (.putfield 39, 3) := dk_181 0 39 (dk_at dksJ40_rotateLeft_3 0 rfl rfl)
theorem dJ40_rotateLeft_71 : decode cJ40_rotateLeft 71 = .ok (.goto 8, 3) := dk_167 0 8 (dk_at dksJ40_rotateLeft_3 3 rfl rfl)
theorem dJ40_rotateLeft_74 : decode cJ40_rotateLeft 74 = .ok (.aload_n 3, 1) := dk_45 (dk_at dksJ40_rotateLeft_3 6 rfl rfl)
theorem dJ40_rotateLeft_75 : decode cJ40_rotateLeft 75 = .ok (.aload_n 2, 1) := dk_44 (dk_at dksJ40_rotateLeft_3 7 rfl rfl)
theorem dJ40_rotateLeft_76 : decode cJ40_rotateLeft 76 = .ok (.putfield 42, 3) := dk_181 0 42 (dk_at dksJ40_rotateLeft_3 8 rfl rfl)
theorem dJ40_rotateLeft_79 : decode cJ40_rotateLeft 79 = .ok (.aload_n 2, 1) := dk_44 (dk_at dksJ40_rotateLeft_3 11 rfl rfl)
theorem dJ40_rotateLeft_80 : decode cJ40_rotateLeft 80 = .ok (.aload_n 1, 1) := dk_43 (dk_at dksJ40_rotateLeft_3 12 rfl rfl)
theorem dJ40_rotateLeft_81 : decode cJ40_rotateLeft 81 = .ok (.putfield 39, 3) := dk_181 0 39 (dk_at dksJ40_rotateLeft_3 13 rfl rfl)
theorem dJ40_rotateLeft_84 : decode cJ40_rotateLeft 84 = .ok (.aload_n 1, 1) := dk_43 (dk_at dksJ40_rotateLeft_3 16 rfl rfl)
theorem dJ40_rotateLeft_85 : decode cJ40_rotateLeft 85 = .ok (.aload_n 2, 1) := dk_44 (dk_at dksJ40_rotateLeft_3 17 rfl rfl)
theorem dJ40_rotateLeft_86 : decode cJ40_rotateLeft 86 = .ok (.putfield 9, 3) := dk_181 0 9 (dk_at dksJ40_rotateLeft_3 18 rfl rfl)
theorem dJ40_rotateLeft_89 : decode cJ40_rotateLeft 89 = .ok (.aload_n 0, 1) := dk_42 (dk_at dksJ40_rotateLeft_3 21 rfl rfl)
theorem dJ40_rotateLeft_90 : decode cJ40_rotateLeft 90 = .ok (.areturn, 1) := dk_176 (dk_at dksJ40_rotateLeft_3 22 rfl rfl)
abbrev cJ40_rotateRight : ByteArray := prog_70_method_13_code
def yJ40_rotateRight : MethodName := ⟨RJ40, "rotateRight", "(Ljava/util/HashMap$TreeNode;Ljava/util/HashMap$TreeNode;)Ljava/util/HashMap$TreeNode;"⟩
def dkwJ40_rotateRight_3 : List UInt8 := [181, 0, 42, 167, 0, 8, 45, 44, 181, 0, 39, 44, 43, 181, 0, 42, 43, 44, 181, 0, 9, 42, 176]
abbrev dktJ40_rotateRight_3 : List UInt8 := dkwJ40_rotateRight_3 ++ []
def dkwJ40_rotateRight_2 : List UInt8 := [199, 0, 13, 44, 89, 75, 3, 181, 0, 93, 167, 0, 24, 45, 180, 0, 42, 43, 166, 0, 11, 45, 44]
abbrev dktJ40_rotateRight_2 : List UInt8 := dkwJ40_rotateRight_2 ++ dktJ40_rotateRight_3
def dkwJ40_rotateRight_1 : List UInt8 := [58, 4, 198, 0, 9, 25, 4, 43, 181, 0, 9, 44, 43, 180, 0, 9, 90, 181, 0, 9, 89, 78]
abbrev dktJ40_rotateRight_1 : List UInt8 := dkwJ40_rotateRight_1 ++ dktJ40_rotateRight_2
def dkwJ40_rotateRight_0 : List UInt8 := [43, 198, 0, 88, 43, 180, 0, 39, 89, 77, 198, 0, 79, 43, 44, 180, 0, 42, 90, 181, 0, 39, 89]
abbrev dktJ40_rotateRight_0 : List UInt8 := dkwJ40_rotateRight_0 ++ dktJ40_rotateRight_1
theorem dksJ40_rotateRight_0 : cJ40_rotateRight.data.toList.drop 0 = dktJ40_rotateRight_0 := by decide +kernel
theorem dksJ40_rotateRight_1 : cJ40_rotateRight.data.toList.drop 23 = dktJ40_rotateRight_1 := dk_seg dksJ40_rotateRight_0 23 rfl rfl
theorem dksJ40_rotateRight_2 : cJ40_rotateRight.data.toList.drop 45 = dktJ40_rotateRight_2 := dk_seg dksJ40_rotateRight_1 22 rfl rfl
theorem dksJ40_rotateRight_3 : cJ40_rotateRight.data.toList.drop 68 = dktJ40_rotateRight_3 := dk_seg dksJ40_rotateRight_2 23 rfl rfl
theorem dJ40_rotateRight_0 : decode cJ40_rotateRight 0 = .ok (.aload_n 1, 1) := dk_43 (dk_at dksJ40_rotateRight_0 0 rfl rfl)
theorem dJ40_rotateRight_1 : decode cJ40_rotateRight 1 = .ok (.ifnull 88, 3) := dk_198 0 88 (dk_at dksJ40_rotateRight_0 1 rfl rfl)
theorem dJ40_rotateRight_4 : decode cJ40_rotateRight 4 = .ok (.aload_n 1, 1) := dk_43 (dk_at dksJ40_rotateRight_0 4 rfl rfl)
theorem dJ40_rotateRight_5 : decode cJ40_rotateRight 5 = .ok (.getfield 39, 3) := dk_180 0 39 (dk_at dksJ40_rotateRight_0 5 rfl rfl)
theorem dJ40_rotateRight_8 : decode cJ40_rotateRight 8 = .ok (.dup, 1) := dk_89 (dk_at dksJ40_rotateRight_0 8 rfl rfl)
theorem dJ40_rotateRight_9 : decode cJ40_rotateRight 9 = .ok (.astore_n 2, 1) := dk_77 (dk_at dksJ40_rotateRight_0 9 rfl rfl)
theorem dJ40_rotateRight_10 : decode cJ40_rotateRight 10 = .ok (.ifnull 79, 3) := dk_198 0 79 (dk_at dksJ40_rotateRight_0 10 rfl rfl)
theorem dJ40_rotateRight_13 : decode cJ40_rotateRight 13 = .ok (.aload_n 1, 1) := dk_43 (dk_at dksJ40_rotateRight_0 13 rfl rfl)
theorem dJ40_rotateRight_14 : decode cJ40_rotateRight 14 = .ok (.aload_n 2, 1) := dk_44 (dk_at dksJ40_rotateRight_0 14 rfl rfl)
theorem dJ40_rotateRight_15 : decode cJ40_rotateRight 15 = .ok (.getfield 42, 3) := dk_180 0 42 (dk_at dksJ40_rotateRight_0 15 rfl rfl)
theorem dJ40_rotateRight_18 : decode cJ40_rotateRight 18 = .ok (.dup_x1, 1) := dk_90 (dk_at dksJ40_rotateRight_0 18 rfl rfl)
theorem dJ40_rotateRight_19 : decode cJ40_rotateRight 19 = .ok (.putfield 39, 3) := dk_181 0 39 (dk_at dksJ40_rotateRight_0 19 rfl rfl)
theorem dJ40_rotateRight_22 : decode cJ40_rotateRight 22 = .ok (.dup, 1) := dk_89 (dk_at dksJ40_rotateRight_0 22 rfl rfl)
theorem dJ40_rotateRight_23 : decode cJ40_rotateRight 23 = .ok (.astore 4, 2) := dk_58 4 (dk_at dksJ40_rotateRight_1 0 rfl rfl)
theorem dJ40_rotateRight_25 : decode cJ40_rotateRight 25 = .ok (.ifnull 9, 3) := dk_198 0 9 (dk_at dksJ40_rotateRight_1 2 rfl rfl)
theorem dJ40_rotateRight_28 : decode cJ40_rotateRight 28 = .ok (.aload 4, 2) := dk_25 4 (dk_at dksJ40_rotateRight_1 5 rfl rfl)
theorem dJ40_rotateRight_30 : decode cJ40_rotateRight 30 = .ok (.aload_n 1, 1) := dk_43 (dk_at dksJ40_rotateRight_1 7 rfl rfl)
theorem dJ40_rotateRight_31 : decode cJ40_rotateRight 31 = .ok (.putfield 9, 3) := dk_181 0 9 (dk_at dksJ40_rotateRight_1 8 rfl rfl)
theorem dJ40_rotateRight_34 : decode cJ40_rotateRight 34 = .ok (.aload_n 2, 1) := dk_44 (dk_at dksJ40_rotateRight_1 11 rfl rfl)
theorem dJ40_rotateRight_35 : decode cJ40_rotateRight 35 = .ok (.aload_n 1, 1) := dk_43 (dk_at dksJ40_rotateRight_1 12 rfl rfl)
theorem dJ40_rotateRight_36 : decode cJ40_rotateRight 36 = .ok (.getfield 9, 3) := dk_180 0 9 (dk_at dksJ40_rotateRight_1 13 rfl rfl)
theorem dJ40_rotateRight_39 : decode cJ40_rotateRight 39 = .ok (.dup_x1, 1) := dk_90 (dk_at dksJ40_rotateRight_1 16 rfl rfl)
theorem dJ40_rotateRight_40 : decode cJ40_rotateRight 40 = .ok (.putfield 9, 3) := dk_181 0 9 (dk_at dksJ40_rotateRight_1 17 rfl rfl)
theorem dJ40_rotateRight_43 : decode cJ40_rotateRight 43 = .ok (.dup, 1) := dk_89 (dk_at dksJ40_rotateRight_1 20 rfl rfl)
theorem dJ40_rotateRight_44 : decode cJ40_rotateRight 44 = .ok (.astore_n 3, 1) := dk_78 (dk_at dksJ40_rotateRight_1 21 rfl rfl)
theorem dJ40_rotateRight_45 : decode cJ40_rotateRight 45 = .ok (.ifnonnull 13, 3) := dk_199 0 13 (dk_at dksJ40_rotateRight_2 0 rfl rfl)
theorem dJ40_rotateRight_48 : decode cJ40_rotateRight 48 = .ok (.aload_n 2, 1) := dk_44 (dk_at dksJ40_rotateRight_2 3 rfl rfl)
theorem dJ40_rotateRight_49 : decode cJ40_rotateRight 49 = .ok (.dup, 1) := dk_89 (dk_at dksJ40_rotateRight_2 4 rfl rfl)
theorem dJ40_rotateRight_50 : decode cJ40_rotateRight 50 = .ok (.astore_n 0, 1) := dk_75 (dk_at dksJ40_rotateRight_2 5 rfl rfl)
theorem dJ40_rotateRight_51 : decode cJ40_rotateRight 51 = .ok (.iconst 0, 1) := dk_3 (dk_at dksJ40_rotateRight_2 6 rfl rfl)
theorem dJ40_rotateRight_52 : decode cJ40_rotateRight 52 = .ok (.putfield 93, 3) := dk_181 0 93 (dk_at dksJ40_rotateRight_2 7 rfl rfl)
theorem dJ40_rotateRight_55 : decode cJ40_rotateRight 55 = .ok (.goto 24, 3) := dk_167 0 24 (dk_at dksJ40_rotateRight_2 10 rfl rfl)
theorem dJ40_rotateRight_58 : decode cJ40_rotateRight 58 = .ok (.aload_n 3, 1) := dk_45 (dk_at dksJ40_rotateRight_2 13 rfl rfl)
theorem dJ40_rotateRight_59 : decode cJ40_rotateRight 59 = .ok (.getfield 42, 3) := dk_180 0 42 (dk_at dksJ40_rotateRight_2 14 rfl rfl)
theorem dJ40_rotateRight_62 : decode cJ40_rotateRight 62 = .ok (.aload_n 1, 1) := dk_43 (dk_at dksJ40_rotateRight_2 17 rfl rfl)
theorem dJ40_rotateRight_63 : decode cJ40_rotateRight 63 = .ok (.if_acmp .ne 11, 3) := dk_166 0 11 (dk_at dksJ40_rotateRight_2 18 rfl rfl)
theorem dJ40_rotateRight_66 : decode cJ40_rotateRight 66 = .ok (.aload_n 3, 1) := dk_45 (dk_at dksJ40_rotateRight_2 21 rfl rfl)
theorem dJ40_rotateRight_67 : decode cJ40_rotateRight 67 = .ok (.aload_n 2, 1) := dk_44 (dk_at dksJ40_rotateRight_2 22 rfl rfl)
theorem dJ40_rotateRight_68 : decode cJ40_rotateRight 68 = .ok (.putfield 42, 3) := dk_181 0 42 (dk_at dksJ40_rotateRight_3 0 rfl rfl)
theorem dJ40_rotateRight_71 : decode cJ40_rotateRight 71 = .ok (.goto 8, 3) := dk_167 0 8 (dk_at dksJ40_rotateRight_3 3 rfl rfl)
theorem dJ40_rotateRight_74 : decode cJ40_rotateRight 74 = .ok (.aload_n 3, 1) := dk_45 (dk_at dksJ40_rotateRight_3 6 rfl rfl)
theorem dJ40_rotateRight_75 : decode cJ40_rotateRight 75 = .ok (.aload_n 2, 1) := dk_44 (dk_at dksJ40_rotateRight_3 7 rfl rfl)
theorem dJ40_rotateRight_76 : decode cJ40_rotateRight 76 = .ok (.putfield 39, 3) := dk_181 0 39 (dk_at dksJ40_rotateRight_3 8 rfl rfl)
theorem dJ40_rotateRight_79 : decode cJ40_rotateRight 79 = .ok (.aload_n 2, 1) := dk_44 (dk_at dksJ40_rotateRight_3 11 rfl rfl)
theorem dJ40_rotateRight_80 : decode cJ40_rotateRight 80 = .ok (.aload_n 1, 1) := dk_43 (dk_at dksJ40_rotateRight_3 12 rfl rfl)
theorem dJ40_rotateRight_81 : decode cJ40_rotateRight 81 = .ok (.putfield 42, 3) := dk_181 0 42 (dk_at dksJ40_rotateRight_3 13 rfl rfl)
theorem dJ40_rotateRight_84 : decode cJ40_rotateRight 84 = .ok (.aload_n 1, 1) := dk_43 (dk_at dksJ40_rotateRight_3 16 rfl rfl)
theorem dJ40_rotateRight_85 : decode cJ40_rotateRight 85 = .ok (.aload_n 2, 1) := dk_44 (dk_at dksJ40_rotateRight_3 17 rfl rfl)
theorem dJ40_rotateRight_86 : decode cJ40_rotateRight 86 = .ok (.putfield 9, 3) := dk_181 0 9 (dk_at dksJ40_rotateRight_3 18 rfl rfl)
theorem dJ40_rotateRight_89 : decode cJ40_rotateRight 89 = .ok (.aload_n 0, 1) := dk_42 (dk_at dksJ40_rotateRight_3 21 rfl rfl)
theorem dJ40_rotateRight_90 : decode cJ40_rotateRight 90 = .ok (.areturn, 1) := dk_176 (dk_at dksJ40_rotateRight_3 22 rfl rfl)
abbrev cJ40_moveRootToFront : ByteArray := prog_70_method_3_code
def yJ40_moveRootToFront : MethodName := ⟨RJ40, "moveRootToFront", "([Ljava/util/HashMap$Node;Ljava/util/HashMap$TreeNode;)V"⟩
def dkwJ40_moveRootToFront_5 : List UInt8 := [89, 183, 0, 36, 191, 177]
abbrev dktJ40_moveRootToFront_5 : List UInt8 := dkwJ40_moveRootToFront_5 ++ []
def dkwJ40_moveRootToFront_4 : List UInt8 := [181, 0, 22, 43, 1, 181, 0, 19, 178, 0, 26, 154, 0, 18, 43, 184, 0, 30, 154, 0, 11, 187, 0, 34]
abbrev dktJ40_moveRootToFront_4 : List UInt8 := dkwJ40_moveRootToFront_4 ++ dktJ40_moveRootToFront_5
def dkwJ40_moveRootToFront_3 : List UInt8 := [198, 0, 10, 25, 6, 25, 5, 181, 0, 22, 25, 4, 198, 0, 9, 25, 4, 43, 181, 0, 19, 43, 25, 4]
abbrev dktJ40_moveRootToFront_3 : List UInt8 := dkwJ40_moveRootToFront_3 ++ dktJ40_moveRootToFront_4
def dkwJ40_moveRootToFront_2 : List UInt8 := [43, 180, 0, 22, 89, 58, 5, 198, 0, 13, 25, 5, 192, 0, 10, 25, 6, 181, 0, 19, 25, 6]
abbrev dktJ40_moveRootToFront_2 : List UInt8 := dkwJ40_moveRootToFront_2 ++ dktJ40_moveRootToFront_3
def dkwJ40_moveRootToFront_1 : List UInt8 := [42, 29, 50, 192, 0, 10, 58, 4, 43, 25, 4, 165, 0, 67, 42, 29, 43, 83, 43, 180, 0, 19, 58, 6]
abbrev dktJ40_moveRootToFront_1 : List UInt8 := dkwJ40_moveRootToFront_1 ++ dktJ40_moveRootToFront_2
def dkwJ40_moveRootToFront_0 : List UInt8 := [43, 198, 0, 122, 42, 198, 0, 118, 42, 190, 89, 61, 158, 0, 111, 28, 4, 100, 43, 180, 0, 15, 126, 62]
abbrev dktJ40_moveRootToFront_0 : List UInt8 := dkwJ40_moveRootToFront_0 ++ dktJ40_moveRootToFront_1
theorem dksJ40_moveRootToFront_0 : cJ40_moveRootToFront.data.toList.drop 0 = dktJ40_moveRootToFront_0 := by decide +kernel
theorem dksJ40_moveRootToFront_1 : cJ40_moveRootToFront.data.toList.drop 24 = dktJ40_moveRootToFront_1 := dk_seg dksJ40_moveRootToFront_0 24 rfl rfl
theorem dksJ40_moveRootToFront_2 : cJ40_moveRootToFront.data.toList.drop 48 = dktJ40_moveRootToFront_2 := dk_seg dksJ40_moveRootToFront_1 24 rfl rfl
theorem dksJ40_moveRootToFront_3 : cJ40_moveRootToFront.data.toList.drop 70 = dktJ40_moveRootToFront_3 := dk_seg dksJ40_moveRootToFront_2 22 rfl rfl
theorem dksJ40_moveRootToFront_4 : cJ40_moveRootToFront.data.toList.drop 94 = dktJ40_moveRootToFront_4 := dk_seg dksJ40_moveRootToFront_3 24 rfl rfl
theorem dksJ40_moveRootToFront_5 : cJ40_moveRootToFront.data.toList.drop 118 = dktJ40_moveRootToFront_5 := dk_seg dksJ40_moveRootToFront_4 24 rfl rfl
theorem dJ40_moveRootToFront_0 : decode cJ40_moveRootToFront 0 = .ok (.aload_n 1, 1) := dk_43 (dk_at dksJ40_moveRootToFront_0 0 rfl rfl)
theorem dJ40_moveRootToFront_1 : decode cJ40_moveRootToFront 1 = .ok (.ifnull 122, 3) := dk_198 0 122 (dk_at dksJ40_moveRootToFront_0 1 rfl rfl)
theorem dJ40_moveRootToFront_4 : decode cJ40_moveRootToFront 4 = .ok (.aload_n 0, 1) := dk_42 (dk_at dksJ40_moveRootToFront_0 4 rfl rfl)
theorem dJ40_moveRootToFront_5 : decode cJ40_moveRootToFront 5 = .ok (.ifnull 118, 3) := dk_198 0 118 (dk_at dksJ40_moveRootToFront_0 5 rfl rfl)
theorem dJ40_moveRootToFront_8 : decode cJ40_moveRootToFront 8 = .ok (.aload_n 0, 1) := dk_42 (dk_at dksJ40_moveRootToFront_0 8 rfl rfl)
theorem dJ40_moveRootToFront_9 : decode cJ40_moveRootToFront 9 = .ok (.arraylength, 1) := dk_190 (dk_at dksJ40_moveRootToFront_0 9 rfl rfl)
theorem dJ40_moveRootToFront_10 : decode cJ40_moveRootToFront 10 = .ok (.dup, 1) := dk_89 (dk_at dksJ40_moveRootToFront_0 10 rfl rfl)
theorem dJ40_moveRootToFront_11 : decode cJ40_moveRootToFront 11 = .ok (.istore_n 2, 1) := dk_61 (dk_at dksJ40_moveRootToFront_0 11 rfl rfl)
theorem dJ40_moveRootToFront_12 : decode cJ40_moveRootToFront 12 = .ok (.ifCond .le 111, 3) := dk_158 0 111 (dk_at dksJ40_moveRootToFront_0 12 rfl rfl)
theorem dJ40_moveRootToFront_15 : decode cJ40_moveRootToFront 15 = .ok (.iload_n 2, 1) := dk_28 (dk_at dksJ40_moveRootToFront_0 15 rfl rfl)
theorem dJ40_moveRootToFront_16 : decode cJ40_moveRootToFront 16 = .ok (.iconst 1, 1) := dk_4 (dk_at dksJ40_moveRootToFront_0 16 rfl rfl)
theorem dJ40_moveRootToFront_17 : decode cJ40_moveRootToFront 17 = .ok (.isub, 1) := dk_100 (dk_at dksJ40_moveRootToFront_0 17 rfl rfl)
theorem dJ40_moveRootToFront_18 : decode cJ40_moveRootToFront 18 = .ok (.aload_n 1, 1) := dk_43 (dk_at dksJ40_moveRootToFront_0 18 rfl rfl)
theorem dJ40_moveRootToFront_19 : decode cJ40_moveRootToFront 19 = .ok (.getfield 15, 3) := dk_180 0 15 (dk_at dksJ40_moveRootToFront_0 19 rfl rfl)
theorem dJ40_moveRootToFront_22 : decode cJ40_moveRootToFront 22 = .ok (.iand, 1) := dk_126 (dk_at dksJ40_moveRootToFront_0 22 rfl rfl)
theorem dJ40_moveRootToFront_23 : decode cJ40_moveRootToFront 23 = .ok (.istore_n 3, 1) := dk_62 (dk_at dksJ40_moveRootToFront_0 23 rfl rfl)
theorem dJ40_moveRootToFront_24 : decode cJ40_moveRootToFront 24 = .ok (.aload_n 0, 1) := dk_42 (dk_at dksJ40_moveRootToFront_1 0 rfl rfl)
theorem dJ40_moveRootToFront_25 : decode cJ40_moveRootToFront 25 = .ok (.iload_n 3, 1) := dk_29 (dk_at dksJ40_moveRootToFront_1 1 rfl rfl)
theorem dJ40_moveRootToFront_26 : decode cJ40_moveRootToFront 26 = .ok (.aaload, 1) := dk_50 (dk_at dksJ40_moveRootToFront_1 2 rfl rfl)
theorem dJ40_moveRootToFront_27 : decode cJ40_moveRootToFront 27 = .ok (.checkcast 10, 3) := dk_192 0 10 (dk_at dksJ40_moveRootToFront_1 3 rfl rfl)
theorem dJ40_moveRootToFront_30 : decode cJ40_moveRootToFront 30 = .ok (.astore 4, 2) := dk_58 4 (dk_at dksJ40_moveRootToFront_1 6 rfl rfl)
theorem dJ40_moveRootToFront_32 : decode cJ40_moveRootToFront 32 = .ok (.aload_n 1, 1) := dk_43 (dk_at dksJ40_moveRootToFront_1 8 rfl rfl)
theorem dJ40_moveRootToFront_33 : decode cJ40_moveRootToFront 33 = .ok (.aload 4, 2) := dk_25 4 (dk_at dksJ40_moveRootToFront_1 9 rfl rfl)
theorem dJ40_moveRootToFront_35 : decode cJ40_moveRootToFront 35 = .ok (.if_acmp .eq 67, 3) := dk_165 0 67 (dk_at dksJ40_moveRootToFront_1 11 rfl rfl)
theorem dJ40_moveRootToFront_38 : decode cJ40_moveRootToFront 38 = .ok (.aload_n 0, 1) := dk_42 (dk_at dksJ40_moveRootToFront_1 14 rfl rfl)
theorem dJ40_moveRootToFront_39 : decode cJ40_moveRootToFront 39 = .ok (.iload_n 3, 1) := dk_29 (dk_at dksJ40_moveRootToFront_1 15 rfl rfl)
theorem dJ40_moveRootToFront_40 : decode cJ40_moveRootToFront 40 = .ok (.aload_n 1, 1) := dk_43 (dk_at dksJ40_moveRootToFront_1 16 rfl rfl)
theorem dJ40_moveRootToFront_41 : decode cJ40_moveRootToFront 41 = .ok (.aastore, 1) := dk_83 (dk_at dksJ40_moveRootToFront_1 17 rfl rfl)
theorem dJ40_moveRootToFront_42 : decode cJ40_moveRootToFront 42 = .ok (.aload_n 1, 1) := dk_43 (dk_at dksJ40_moveRootToFront_1 18 rfl rfl)
theorem dJ40_moveRootToFront_43 : decode cJ40_moveRootToFront 43 = .ok (.getfield 19, 3) := dk_180 0 19 (dk_at dksJ40_moveRootToFront_1 19 rfl rfl)
theorem dJ40_moveRootToFront_46 : decode cJ40_moveRootToFront 46 = .ok (.astore 6, 2) := dk_58 6 (dk_at dksJ40_moveRootToFront_1 22 rfl rfl)
theorem dJ40_moveRootToFront_48 : decode cJ40_moveRootToFront 48 = .ok (.aload_n 1, 1) := dk_43 (dk_at dksJ40_moveRootToFront_2 0 rfl rfl)
theorem dJ40_moveRootToFront_49 : decode cJ40_moveRootToFront 49 = .ok (.getfield 22, 3) := dk_180 0 22 (dk_at dksJ40_moveRootToFront_2 1 rfl rfl)
theorem dJ40_moveRootToFront_52 : decode cJ40_moveRootToFront 52 = .ok (.dup, 1) := dk_89 (dk_at dksJ40_moveRootToFront_2 4 rfl rfl)
theorem dJ40_moveRootToFront_53 : decode cJ40_moveRootToFront 53 = .ok (.astore 5, 2) := dk_58 5 (dk_at dksJ40_moveRootToFront_2 5 rfl rfl)
theorem dJ40_moveRootToFront_55 : decode cJ40_moveRootToFront 55 = .ok (.ifnull 13, 3) := dk_198 0 13 (dk_at dksJ40_moveRootToFront_2 7 rfl rfl)
theorem dJ40_moveRootToFront_58 : decode cJ40_moveRootToFront 58 = .ok (.aload 5, 2) := dk_25 5 (dk_at dksJ40_moveRootToFront_2 10 rfl rfl)
theorem dJ40_moveRootToFront_60 : decode cJ40_moveRootToFront 60 = .ok (.checkcast 10, 3) := dk_192 0 10 (dk_at dksJ40_moveRootToFront_2 12 rfl rfl)
theorem dJ40_moveRootToFront_63 : decode cJ40_moveRootToFront 63 = .ok (.aload 6, 2) := dk_25 6 (dk_at dksJ40_moveRootToFront_2 15 rfl rfl)
theorem dJ40_moveRootToFront_65 : decode cJ40_moveRootToFront 65 = .ok (.putfield 19, 3) := dk_181 0 19 (dk_at dksJ40_moveRootToFront_2 17 rfl rfl)
theorem dJ40_moveRootToFront_68 : decode cJ40_moveRootToFront 68 = .ok (.aload 6, 2) := dk_25 6 (dk_at dksJ40_moveRootToFront_2 20 rfl rfl)
theorem dJ40_moveRootToFront_70 : decode cJ40_moveRootToFront 70 = .ok (.ifnull 10, 3) := dk_198 0 10 (dk_at dksJ40_moveRootToFront_3 0 rfl rfl)
theorem dJ40_moveRootToFront_73 : decode cJ40_moveRootToFront 73 = .ok (.aload 6, 2) := dk_25 6 (dk_at dksJ40_moveRootToFront_3 3 rfl rfl)
theorem dJ40_moveRootToFront_75 : decode cJ40_moveRootToFront 75 = .ok (.aload 5, 2) := dk_25 5 (dk_at dksJ40_moveRootToFront_3 5 rfl rfl)
theorem dJ40_moveRootToFront_77 : decode cJ40_moveRootToFront 77 = .ok (.putfield 22, 3) := dk_181 0 22 (dk_at dksJ40_moveRootToFront_3 7 rfl rfl)
theorem dJ40_moveRootToFront_80 : decode cJ40_moveRootToFront 80 = .ok (.aload 4, 2) := dk_25 4 (dk_at dksJ40_moveRootToFront_3 10 rfl rfl)
theorem dJ40_moveRootToFront_82 : decode cJ40_moveRootToFront 82 = .ok (.ifnull 9, 3) := dk_198 0 9 (dk_at dksJ40_moveRootToFront_3 12 rfl rfl)
theorem dJ40_moveRootToFront_85 : decode cJ40_moveRootToFront 85 = .ok (.aload 4, 2) := dk_25 4 (dk_at dksJ40_moveRootToFront_3 15 rfl rfl)
theorem dJ40_moveRootToFront_87 : decode cJ40_moveRootToFront 87 = .ok (.aload_n 1, 1) := dk_43 (dk_at dksJ40_moveRootToFront_3 17 rfl rfl)
theorem dJ40_moveRootToFront_88 : decode cJ40_moveRootToFront 88 = .ok (.putfield 19, 3) := dk_181 0 19 (dk_at dksJ40_moveRootToFront_3 18 rfl rfl)
theorem dJ40_moveRootToFront_91 : decode cJ40_moveRootToFront 91 = .ok (.aload_n 1, 1) := dk_43 (dk_at dksJ40_moveRootToFront_3 21 rfl rfl)
theorem dJ40_moveRootToFront_92 : decode cJ40_moveRootToFront 92 = .ok (.aload 4, 2) := dk_25 4 (dk_at dksJ40_moveRootToFront_3 22 rfl rfl)
theorem dJ40_moveRootToFront_94 : decode cJ40_moveRootToFront 94 = .ok (.putfield 22, 3) := dk_181 0 22 (dk_at dksJ40_moveRootToFront_4 0 rfl rfl)
theorem dJ40_moveRootToFront_97 : decode cJ40_moveRootToFront 97 = .ok (.aload_n 1, 1) := dk_43 (dk_at dksJ40_moveRootToFront_4 3 rfl rfl)
theorem dJ40_moveRootToFront_98 : decode cJ40_moveRootToFront 98 = .ok (.aconst_null, 1) := dk_1 (dk_at dksJ40_moveRootToFront_4 4 rfl rfl)
theorem dJ40_moveRootToFront_99 : decode cJ40_moveRootToFront 99 = .ok (.putfield 19, 3) := dk_181 0 19 (dk_at dksJ40_moveRootToFront_4 5 rfl rfl)
theorem dJ40_moveRootToFront_102 : decode cJ40_moveRootToFront 102 = .ok (.getstatic 26, 3) := dk_178 0 26 (dk_at dksJ40_moveRootToFront_4 8 rfl rfl)
theorem dJ40_moveRootToFront_105 : decode cJ40_moveRootToFront 105 = .ok (.ifCond .ne 18, 3) := dk_154 0 18 (dk_at dksJ40_moveRootToFront_4 11 rfl rfl)
theorem dJ40_moveRootToFront_108 : decode cJ40_moveRootToFront 108 = .ok (.aload_n 1, 1) := dk_43 (dk_at dksJ40_moveRootToFront_4 14 rfl rfl)
theorem dJ40_moveRootToFront_109 : decode cJ40_moveRootToFront 109 = .ok (.invokestatic 30, 3) := dk_184 0 30 (dk_at dksJ40_moveRootToFront_4 15 rfl rfl)
theorem dJ40_moveRootToFront_112 : decode cJ40_moveRootToFront 112 = .ok (.ifCond .ne 11, 3) := dk_154 0 11 (dk_at dksJ40_moveRootToFront_4 18 rfl rfl)
theorem dJ40_moveRootToFront_115 : decode cJ40_moveRootToFront 115 = .ok (.new 34, 3) := dk_187 0 34 (dk_at dksJ40_moveRootToFront_4 21 rfl rfl)
theorem dJ40_moveRootToFront_118 : decode cJ40_moveRootToFront 118 = .ok (.dup, 1) := dk_89 (dk_at dksJ40_moveRootToFront_5 0 rfl rfl)
theorem dJ40_moveRootToFront_119 : decode cJ40_moveRootToFront 119 = .ok (.invokespecial 36, 3) := dk_183 0 36 (dk_at dksJ40_moveRootToFront_5 1 rfl rfl)
theorem dJ40_moveRootToFront_122 : decode cJ40_moveRootToFront 122 = .ok (.athrow, 1) := dk_191 (dk_at dksJ40_moveRootToFront_5 4 rfl rfl)
theorem dJ40_moveRootToFront_123 : decode cJ40_moveRootToFront 123 = .ok (.return_, 1) := dk_177 (dk_at dksJ40_moveRootToFront_5 5 rfl rfl)
abbrev cJ40_putTreeVal : ByteArray := prog_70_method_9_code
def yJ40_putTreeVal : MethodName := ⟨RJ40, "putTreeVal", "(Ljava/util/HashMap;[Ljava/util/HashMap$Node;ILjava/lang/Object;Ljava/lang/Object;)Ljava/util/HashMap$TreeNode;"⟩
def dkwJ40_putTreeVal_13 : List UInt8 := [184, 0, 100, 184, 0, 104, 1, 176, 167, 254, 228]
abbrev dktJ40_putTreeVal_13 : List UInt8 := dkwJ40_putTreeVal_13 ++ []
def dkwJ40_putTreeVal_12 : List UInt8 := [181, 0, 9, 25, 14, 198, 0, 13, 25, 14, 192, 0, 10, 25, 15, 181, 0, 19, 44, 25, 8, 25, 15]
abbrev dktJ40_putTreeVal_12 : List UInt8 := dkwJ40_putTreeVal_12 ++ dktJ40_putTreeVal_13
def dkwJ40_putTreeVal_11 : List UInt8 := [25, 15, 181, 0, 42, 25, 13, 25, 15, 181, 0, 22, 25, 15, 25, 15, 25, 13, 90, 181, 0, 19]
abbrev dktJ40_putTreeVal_11 : List UInt8 := dkwJ40_putTreeVal_11 ++ dktJ40_putTreeVal_12
def dkwJ40_putTreeVal_10 : List UInt8 := [25, 14, 182, 0, 115, 58, 15, 21, 10, 157, 0, 13, 25, 13, 25, 15, 181, 0, 39, 167, 0, 10, 25, 13]
abbrev dktJ40_putTreeVal_10 : List UInt8 := dkwJ40_putTreeVal_10 ++ dktJ40_putTreeVal_11
def dkwJ40_putTreeVal_9 : List UInt8 := [25, 9, 180, 0, 42, 89, 58, 9, 199, 0, 93, 25, 13, 180, 0, 22, 58, 14, 43, 29, 25, 4, 25, 5]
abbrev dktJ40_putTreeVal_9 : List UInt8 := dkwJ40_putTreeVal_9 ++ dktJ40_putTreeVal_10
def dkwJ40_putTreeVal_8 : List UInt8 := [25, 12, 184, 0, 96, 54, 10, 25, 9, 58, 13, 21, 10, 157, 0, 11, 25, 9, 180, 0, 39, 167, 0, 8]
abbrev dktJ40_putTreeVal_8 : List UInt8 := dkwJ40_putTreeVal_8 ++ dktJ40_putTreeVal_9
def dkwJ40_putTreeVal_7 : List UInt8 := [198, 0, 22, 25, 14, 29, 25, 4, 25, 6, 182, 0, 63, 89, 58, 13, 198, 0, 6, 25, 13, 176, 25, 4]
abbrev dktJ40_putTreeVal_7 : List UInt8 := dkwJ40_putTreeVal_7 ++ dktJ40_putTreeVal_8
def dkwJ40_putTreeVal_6 : List UInt8 := [29, 25, 4, 25, 6, 182, 0, 63, 89, 58, 13, 199, 0, 30, 25, 9, 180, 0, 42, 89, 58, 14]
abbrev dktJ40_putTreeVal_6 : List UInt8 := dkwJ40_putTreeVal_6 ++ dktJ40_putTreeVal_7
def dkwJ40_putTreeVal_5 : List UInt8 := [154, 0, 77, 21, 7, 154, 0, 63, 4, 54, 7, 25, 9, 180, 0, 39, 89, 58, 14, 198, 0, 19, 25, 14]
abbrev dktJ40_putTreeVal_5 : List UInt8 := dkwJ40_putTreeVal_5 ++ dktJ40_putTreeVal_6
def dkwJ40_putTreeVal_4 : List UInt8 := [25, 4, 184, 0, 55, 89, 58, 6, 198, 0, 18, 25, 6, 25, 4, 25, 12, 184, 0, 59, 89, 54, 10]
abbrev dktJ40_putTreeVal_4 : List UInt8 := dkwJ40_putTreeVal_4 ++ dktJ40_putTreeVal_5
def dkwJ40_putTreeVal_3 : List UInt8 := [25, 4, 198, 0, 16, 25, 4, 25, 12, 182, 0, 49, 153, 0, 6, 25, 9, 176, 25, 6, 199, 0, 14]
abbrev dktJ40_putTreeVal_3 : List UInt8 := dkwJ40_putTreeVal_3 ++ dktJ40_putTreeVal_4
def dkwJ40_putTreeVal_2 : List UInt8 := [29, 162, 0, 9, 4, 54, 10, 167, 0, 139, 25, 9, 180, 0, 45, 89, 58, 12, 25, 4, 165, 0, 18]
abbrev dktJ40_putTreeVal_2 : List UInt8 := dkwJ40_putTreeVal_2 ++ dktJ40_putTreeVal_3
def dkwJ40_putTreeVal_1 : List UInt8 := [25, 8, 58, 9, 25, 9, 180, 0, 15, 89, 54, 11, 29, 164, 0, 9, 2, 54, 10, 167, 0, 151, 21, 11]
abbrev dktJ40_putTreeVal_1 : List UInt8 := dkwJ40_putTreeVal_1 ++ dktJ40_putTreeVal_2
def dkwJ40_putTreeVal_0 : List UInt8 := [1, 58, 6, 3, 54, 7, 42, 180, 0, 9, 198, 0, 10, 42, 182, 0, 67, 167, 0, 4, 42, 58, 8]
abbrev dktJ40_putTreeVal_0 : List UInt8 := dkwJ40_putTreeVal_0 ++ dktJ40_putTreeVal_1
theorem dksJ40_putTreeVal_0 : cJ40_putTreeVal.data.toList.drop 0 = dktJ40_putTreeVal_0 := by decide +kernel
theorem dksJ40_putTreeVal_1 : cJ40_putTreeVal.data.toList.drop 23 = dktJ40_putTreeVal_1 := dk_seg dksJ40_putTreeVal_0 23 rfl rfl
theorem dksJ40_putTreeVal_2 : cJ40_putTreeVal.data.toList.drop 47 = dktJ40_putTreeVal_2 := dk_seg dksJ40_putTreeVal_1 24 rfl rfl
theorem dksJ40_putTreeVal_3 : cJ40_putTreeVal.data.toList.drop 70 = dktJ40_putTreeVal_3 := dk_seg dksJ40_putTreeVal_2 23 rfl rfl
theorem dksJ40_putTreeVal_4 : cJ40_putTreeVal.data.toList.drop 93 = dktJ40_putTreeVal_4 := dk_seg dksJ40_putTreeVal_3 23 rfl rfl
theorem dksJ40_putTreeVal_5 : cJ40_putTreeVal.data.toList.drop 116 = dktJ40_putTreeVal_5 := dk_seg dksJ40_putTreeVal_4 23 rfl rfl
theorem dksJ40_putTreeVal_6 : cJ40_putTreeVal.data.toList.drop 140 = dktJ40_putTreeVal_6 := dk_seg dksJ40_putTreeVal_5 24 rfl rfl
theorem dksJ40_putTreeVal_7 : cJ40_putTreeVal.data.toList.drop 162 = dktJ40_putTreeVal_7 := dk_seg dksJ40_putTreeVal_6 22 rfl rfl
theorem dksJ40_putTreeVal_8 : cJ40_putTreeVal.data.toList.drop 186 = dktJ40_putTreeVal_8 := dk_seg dksJ40_putTreeVal_7 24 rfl rfl
theorem dksJ40_putTreeVal_9 : cJ40_putTreeVal.data.toList.drop 210 = dktJ40_putTreeVal_9 := dk_seg dksJ40_putTreeVal_8 24 rfl rfl
theorem dksJ40_putTreeVal_10 : cJ40_putTreeVal.data.toList.drop 234 = dktJ40_putTreeVal_10 := dk_seg dksJ40_putTreeVal_9 24 rfl rfl
theorem dksJ40_putTreeVal_11 : cJ40_putTreeVal.data.toList.drop 258 = dktJ40_putTreeVal_11 := dk_seg dksJ40_putTreeVal_10 24 rfl rfl
theorem dksJ40_putTreeVal_12 : cJ40_putTreeVal.data.toList.drop 280 = dktJ40_putTreeVal_12 := dk_seg dksJ40_putTreeVal_11 22 rfl rfl
theorem dksJ40_putTreeVal_13 : cJ40_putTreeVal.data.toList.drop 303 = dktJ40_putTreeVal_13 := dk_seg dksJ40_putTreeVal_12 23 rfl rfl
theorem dJ40_putTreeVal_0 : decode cJ40_putTreeVal 0 = .ok (.aconst_null, 1) := dk_1 (dk_at dksJ40_putTreeVal_0 0 rfl rfl)
theorem dJ40_putTreeVal_1 : decode cJ40_putTreeVal 1 = .ok (.astore 6, 2) := dk_58 6 (dk_at dksJ40_putTreeVal_0 1 rfl rfl)
theorem dJ40_putTreeVal_3 : decode cJ40_putTreeVal 3 = .ok (.iconst 0, 1) := dk_3 (dk_at dksJ40_putTreeVal_0 3 rfl rfl)
theorem dJ40_putTreeVal_4 : decode cJ40_putTreeVal 4 = .ok (.istore 7, 2) := dk_54 7 (dk_at dksJ40_putTreeVal_0 4 rfl rfl)
theorem dJ40_putTreeVal_6 : decode cJ40_putTreeVal 6 = .ok (.aload_n 0, 1) := dk_42 (dk_at dksJ40_putTreeVal_0 6 rfl rfl)
theorem dJ40_putTreeVal_7 : decode cJ40_putTreeVal 7 = .ok (.getfield 9, 3) := dk_180 0 9 (dk_at dksJ40_putTreeVal_0 7 rfl rfl)
theorem dJ40_putTreeVal_10 : decode cJ40_putTreeVal 10 = .ok (.ifnull 10, 3) := dk_198 0 10 (dk_at dksJ40_putTreeVal_0 10 rfl rfl)
theorem dJ40_putTreeVal_13 : decode cJ40_putTreeVal 13 = .ok (.aload_n 0, 1) := dk_42 (dk_at dksJ40_putTreeVal_0 13 rfl rfl)
theorem dJ40_putTreeVal_14 : decode cJ40_putTreeVal 14 = .ok (.invokevirtual 67, 3) := dk_182 0 67 (dk_at dksJ40_putTreeVal_0 14 rfl rfl)
theorem dJ40_putTreeVal_17 : decode cJ40_putTreeVal 17 = .ok (.goto 4, 3) := dk_167 0 4 (dk_at dksJ40_putTreeVal_0 17 rfl rfl)
theorem dJ40_putTreeVal_20 : decode cJ40_putTreeVal 20 = .ok (.aload_n 0, 1) := dk_42 (dk_at dksJ40_putTreeVal_0 20 rfl rfl)
theorem dJ40_putTreeVal_21 : decode cJ40_putTreeVal 21 = .ok (.astore 8, 2) := dk_58 8 (dk_at dksJ40_putTreeVal_0 21 rfl rfl)
theorem dJ40_putTreeVal_23 : decode cJ40_putTreeVal 23 = .ok (.aload 8, 2) := dk_25 8 (dk_at dksJ40_putTreeVal_1 0 rfl rfl)
theorem dJ40_putTreeVal_25 : decode cJ40_putTreeVal 25 = .ok (.astore 9, 2) := dk_58 9 (dk_at dksJ40_putTreeVal_1 2 rfl rfl)
theorem dJ40_putTreeVal_27 : decode cJ40_putTreeVal 27 = .ok (.aload 9, 2) := dk_25 9 (dk_at dksJ40_putTreeVal_1 4 rfl rfl)
theorem dJ40_putTreeVal_29 : decode cJ40_putTreeVal 29 = .ok (.getfield 15, 3) := dk_180 0 15 (dk_at dksJ40_putTreeVal_1 6 rfl rfl)
theorem dJ40_putTreeVal_32 : decode cJ40_putTreeVal 32 = .ok (.dup, 1) := dk_89 (dk_at dksJ40_putTreeVal_1 9 rfl rfl)
theorem dJ40_putTreeVal_33 : decode cJ40_putTreeVal 33 = .ok (.istore 11, 2) := dk_54 11 (dk_at dksJ40_putTreeVal_1 10 rfl rfl)
theorem dJ40_putTreeVal_35 : decode cJ40_putTreeVal 35 = .ok (.iload_n 3, 1) := dk_29 (dk_at dksJ40_putTreeVal_1 12 rfl rfl)
theorem dJ40_putTreeVal_36 : decode cJ40_putTreeVal 36 = .ok (.if_icmp .le 9, 3) := dk_164 0 9 (dk_at dksJ40_putTreeVal_1 13 rfl rfl)
theorem dJ40_putTreeVal_39 : decode cJ40_putTreeVal 39 = .ok (.iconst (-1), 1) := dk_2 (dk_at dksJ40_putTreeVal_1 16 rfl rfl)
theorem dJ40_putTreeVal_40 : decode cJ40_putTreeVal 40 = .ok (.istore 10, 2) := dk_54 10 (dk_at dksJ40_putTreeVal_1 17 rfl rfl)
theorem dJ40_putTreeVal_42 : decode cJ40_putTreeVal 42 = .ok (.goto 151, 3) := dk_167 0 151 (dk_at dksJ40_putTreeVal_1 19 rfl rfl)
theorem dJ40_putTreeVal_45 : decode cJ40_putTreeVal 45 = .ok (.iload 11, 2) := dk_21 11 (dk_at dksJ40_putTreeVal_1 22 rfl rfl)
theorem dJ40_putTreeVal_47 : decode cJ40_putTreeVal 47 = .ok (.iload_n 3, 1) := dk_29 (dk_at dksJ40_putTreeVal_2 0 rfl rfl)
theorem dJ40_putTreeVal_48 : decode cJ40_putTreeVal 48 = .ok (.if_icmp .ge 9, 3) := dk_162 0 9 (dk_at dksJ40_putTreeVal_2 1 rfl rfl)
theorem dJ40_putTreeVal_51 : decode cJ40_putTreeVal 51 = .ok (.iconst 1, 1) := dk_4 (dk_at dksJ40_putTreeVal_2 4 rfl rfl)
theorem dJ40_putTreeVal_52 : decode cJ40_putTreeVal 52 = .ok (.istore 10, 2) := dk_54 10 (dk_at dksJ40_putTreeVal_2 5 rfl rfl)
theorem dJ40_putTreeVal_54 : decode cJ40_putTreeVal 54 = .ok (.goto 139, 3) := dk_167 0 139 (dk_at dksJ40_putTreeVal_2 7 rfl rfl)
theorem dJ40_putTreeVal_57 : decode cJ40_putTreeVal 57 = .ok (.aload 9, 2) := dk_25 9 (dk_at dksJ40_putTreeVal_2 10 rfl rfl)
theorem dJ40_putTreeVal_59 : decode cJ40_putTreeVal 59 = .ok (.getfield 45, 3) := dk_180 0 45 (dk_at dksJ40_putTreeVal_2 12 rfl rfl)
theorem dJ40_putTreeVal_62 : decode cJ40_putTreeVal 62 = .ok (.dup, 1) := dk_89 (dk_at dksJ40_putTreeVal_2 15 rfl rfl)
theorem dJ40_putTreeVal_63 : decode cJ40_putTreeVal 63 = .ok (.astore 12, 2) := dk_58 12 (dk_at dksJ40_putTreeVal_2 16 rfl rfl)
theorem dJ40_putTreeVal_65 : decode cJ40_putTreeVal 65 = .ok (.aload 4, 2) := dk_25 4 (dk_at dksJ40_putTreeVal_2 18 rfl rfl)
theorem dJ40_putTreeVal_67 : decode cJ40_putTreeVal 67 = .ok (.if_acmp .eq 18, 3) := dk_165 0 18 (dk_at dksJ40_putTreeVal_2 20 rfl rfl)
theorem dJ40_putTreeVal_70 : decode cJ40_putTreeVal 70 = .ok (.aload 4, 2) := dk_25 4 (dk_at dksJ40_putTreeVal_3 0 rfl rfl)
theorem dJ40_putTreeVal_72 : decode cJ40_putTreeVal 72 = .ok (.ifnull 16, 3) := dk_198 0 16 (dk_at dksJ40_putTreeVal_3 2 rfl rfl)
theorem dJ40_putTreeVal_75 : decode cJ40_putTreeVal 75 = .ok (.aload 4, 2) := dk_25 4 (dk_at dksJ40_putTreeVal_3 5 rfl rfl)
theorem dJ40_putTreeVal_77 : decode cJ40_putTreeVal 77 = .ok (.aload 12, 2) := dk_25 12 (dk_at dksJ40_putTreeVal_3 7 rfl rfl)
theorem dJ40_putTreeVal_79 : decode cJ40_putTreeVal 79 = .ok (.invokevirtual 49, 3) := dk_182 0 49 (dk_at dksJ40_putTreeVal_3 9 rfl rfl)
theorem dJ40_putTreeVal_82 : decode cJ40_putTreeVal 82 = .ok (.ifCond .eq 6, 3) := dk_153 0 6 (dk_at dksJ40_putTreeVal_3 12 rfl rfl)
theorem dJ40_putTreeVal_85 : decode cJ40_putTreeVal 85 = .ok (.aload 9, 2) := dk_25 9 (dk_at dksJ40_putTreeVal_3 15 rfl rfl)
theorem dJ40_putTreeVal_87 : decode cJ40_putTreeVal 87 = .ok (.areturn, 1) := dk_176 (dk_at dksJ40_putTreeVal_3 17 rfl rfl)
theorem dJ40_putTreeVal_88 : decode cJ40_putTreeVal 88 = .ok (.aload 6, 2) := dk_25 6 (dk_at dksJ40_putTreeVal_3 18 rfl rfl)
theorem dJ40_putTreeVal_90 : decode cJ40_putTreeVal 90 = .ok (.ifnonnull 14, 3) := dk_199 0 14 (dk_at dksJ40_putTreeVal_3 20 rfl rfl)
theorem dJ40_putTreeVal_93 : decode cJ40_putTreeVal 93 = .ok (.aload 4, 2) := dk_25 4 (dk_at dksJ40_putTreeVal_4 0 rfl rfl)
theorem dJ40_putTreeVal_95 : decode cJ40_putTreeVal 95 = .ok (.invokestatic 55, 3) := dk_184 0 55 (dk_at dksJ40_putTreeVal_4 2 rfl rfl)
theorem dJ40_putTreeVal_98 : decode cJ40_putTreeVal 98 = .ok (.dup, 1) := dk_89 (dk_at dksJ40_putTreeVal_4 5 rfl rfl)
theorem dJ40_putTreeVal_99 : decode cJ40_putTreeVal 99 = .ok (.astore 6, 2) := dk_58 6 (dk_at dksJ40_putTreeVal_4 6 rfl rfl)
theorem dJ40_putTreeVal_101 : decode cJ40_putTreeVal 101 = .ok (.ifnull 18, 3) := dk_198 0 18 (dk_at dksJ40_putTreeVal_4 8 rfl rfl)
theorem dJ40_putTreeVal_104 : decode cJ40_putTreeVal 104 = .ok (.aload 6, 2) := dk_25 6 (dk_at dksJ40_putTreeVal_4 11 rfl rfl)
theorem dJ40_putTreeVal_106 : decode cJ40_putTreeVal 106 = .ok (.aload 4, 2) := dk_25 4 (dk_at dksJ40_putTreeVal_4 13 rfl rfl)
theorem dJ40_putTreeVal_108 : decode cJ40_putTreeVal 108 = .ok (.aload 12, 2) := dk_25 12 (dk_at dksJ40_putTreeVal_4 15 rfl rfl)
theorem dJ40_putTreeVal_110 : decode cJ40_putTreeVal 110 = .ok (.invokestatic 59, 3) := dk_184 0 59 (dk_at dksJ40_putTreeVal_4 17 rfl rfl)
theorem dJ40_putTreeVal_113 : decode cJ40_putTreeVal 113 = .ok (.dup, 1) := dk_89 (dk_at dksJ40_putTreeVal_4 20 rfl rfl)
theorem dJ40_putTreeVal_114 : decode cJ40_putTreeVal 114 = .ok (.istore 10, 2) := dk_54 10 (dk_at dksJ40_putTreeVal_4 21 rfl rfl)
theorem dJ40_putTreeVal_116 : decode cJ40_putTreeVal 116 = .ok (.ifCond .ne 77, 3) := dk_154 0 77 (dk_at dksJ40_putTreeVal_5 0 rfl rfl)
theorem dJ40_putTreeVal_119 : decode cJ40_putTreeVal 119 = .ok (.iload 7, 2) := dk_21 7 (dk_at dksJ40_putTreeVal_5 3 rfl rfl)
theorem dJ40_putTreeVal_121 : decode cJ40_putTreeVal 121 = .ok (.ifCond .ne 63, 3) := dk_154 0 63 (dk_at dksJ40_putTreeVal_5 5 rfl rfl)
theorem dJ40_putTreeVal_124 : decode cJ40_putTreeVal 124 = .ok (.iconst 1, 1) := dk_4 (dk_at dksJ40_putTreeVal_5 8 rfl rfl)
theorem dJ40_putTreeVal_125 : decode cJ40_putTreeVal 125 = .ok (.istore 7, 2) := dk_54 7 (dk_at dksJ40_putTreeVal_5 9 rfl rfl)
theorem dJ40_putTreeVal_127 : decode cJ40_putTreeVal 127 = .ok (.aload 9, 2) := dk_25 9 (dk_at dksJ40_putTreeVal_5 11 rfl rfl)
theorem dJ40_putTreeVal_129 : decode cJ40_putTreeVal 129 = .ok (.getfield 39, 3) := dk_180 0 39 (dk_at dksJ40_putTreeVal_5 13 rfl rfl)
theorem dJ40_putTreeVal_132 : decode cJ40_putTreeVal 132 = .ok (.dup, 1) := dk_89 (dk_at dksJ40_putTreeVal_5 16 rfl rfl)
theorem dJ40_putTreeVal_133 : decode cJ40_putTreeVal 133 = .ok (.astore 14, 2) := dk_58 14 (dk_at dksJ40_putTreeVal_5 17 rfl rfl)
theorem dJ40_putTreeVal_135 : decode cJ40_putTreeVal 135 = .ok (.ifnull 19, 3) := dk_198 0 19 (dk_at dksJ40_putTreeVal_5 19 rfl rfl)
theorem dJ40_putTreeVal_138 : decode cJ40_putTreeVal 138 = .ok (.aload 14, 2) := dk_25 14 (dk_at dksJ40_putTreeVal_5 22 rfl rfl)
theorem dJ40_putTreeVal_140 : decode cJ40_putTreeVal 140 = .ok (.iload_n 3, 1) := dk_29 (dk_at dksJ40_putTreeVal_6 0 rfl rfl)
theorem dJ40_putTreeVal_141 : decode cJ40_putTreeVal 141 = .ok (.aload 4, 2) := dk_25 4 (dk_at dksJ40_putTreeVal_6 1 rfl rfl)
theorem dJ40_putTreeVal_143 : decode cJ40_putTreeVal 143 = .ok (.aload 6, 2) := dk_25 6 (dk_at dksJ40_putTreeVal_6 3 rfl rfl)
theorem dJ40_putTreeVal_145 : decode cJ40_putTreeVal 145 = .ok (.invokevirtual 63, 3) := dk_182 0 63 (dk_at dksJ40_putTreeVal_6 5 rfl rfl)
theorem dJ40_putTreeVal_148 : decode cJ40_putTreeVal 148 = .ok (.dup, 1) := dk_89 (dk_at dksJ40_putTreeVal_6 8 rfl rfl)
theorem dJ40_putTreeVal_149 : decode cJ40_putTreeVal 149 = .ok (.astore 13, 2) := dk_58 13 (dk_at dksJ40_putTreeVal_6 9 rfl rfl)
theorem dJ40_putTreeVal_151 : decode cJ40_putTreeVal 151 = .ok (.ifnonnull 30, 3) := dk_199 0 30 (dk_at dksJ40_putTreeVal_6 11 rfl rfl)
theorem dJ40_putTreeVal_154 : decode cJ40_putTreeVal 154 = .ok (.aload 9, 2) := dk_25 9 (dk_at dksJ40_putTreeVal_6 14 rfl rfl)
theorem dJ40_putTreeVal_156 : decode cJ40_putTreeVal 156 = .ok (.getfield 42, 3) := dk_180 0 42 (dk_at dksJ40_putTreeVal_6 16 rfl rfl)
theorem dJ40_putTreeVal_159 : decode cJ40_putTreeVal 159 = .ok (.dup, 1) := dk_89 (dk_at dksJ40_putTreeVal_6 19 rfl rfl)
theorem dJ40_putTreeVal_160 : decode cJ40_putTreeVal 160 = .ok (.astore 14, 2) := dk_58 14 (dk_at dksJ40_putTreeVal_6 20 rfl rfl)
theorem dJ40_putTreeVal_162 : decode cJ40_putTreeVal 162 = .ok (.ifnull 22, 3) := dk_198 0 22 (dk_at dksJ40_putTreeVal_7 0 rfl rfl)
theorem dJ40_putTreeVal_165 : decode cJ40_putTreeVal 165 = .ok (.aload 14, 2) := dk_25 14 (dk_at dksJ40_putTreeVal_7 3 rfl rfl)
theorem dJ40_putTreeVal_167 : decode cJ40_putTreeVal 167 = .ok (.iload_n 3, 1) := dk_29 (dk_at dksJ40_putTreeVal_7 5 rfl rfl)
theorem dJ40_putTreeVal_168 : decode cJ40_putTreeVal 168 = .ok (.aload 4, 2) := dk_25 4 (dk_at dksJ40_putTreeVal_7 6 rfl rfl)
theorem dJ40_putTreeVal_170 : decode cJ40_putTreeVal 170 = .ok (.aload 6, 2) := dk_25 6 (dk_at dksJ40_putTreeVal_7 8 rfl rfl)
theorem dJ40_putTreeVal_172 : decode cJ40_putTreeVal 172 = .ok (.invokevirtual 63, 3) := dk_182 0 63 (dk_at dksJ40_putTreeVal_7 10 rfl rfl)
theorem dJ40_putTreeVal_175 : decode cJ40_putTreeVal 175 = .ok (.dup, 1) := dk_89 (dk_at dksJ40_putTreeVal_7 13 rfl rfl)
theorem dJ40_putTreeVal_176 : decode cJ40_putTreeVal 176 = .ok (.astore 13, 2) := dk_58 13 (dk_at dksJ40_putTreeVal_7 14 rfl rfl)
theorem dJ40_putTreeVal_178 : decode cJ40_putTreeVal 178 = .ok (.ifnull 6, 3) := dk_198 0 6 (dk_at dksJ40_putTreeVal_7 16 rfl rfl)
theorem dJ40_putTreeVal_181 : decode cJ40_putTreeVal 181 = .ok (.aload 13, 2) := dk_25 13 (dk_at dksJ40_putTreeVal_7 19 rfl rfl)
theorem dJ40_putTreeVal_183 : decode cJ40_putTreeVal 183 = .ok (.areturn, 1) := dk_176 (dk_at dksJ40_putTreeVal_7 21 rfl rfl)
theorem dJ40_putTreeVal_184 : decode cJ40_putTreeVal 184 = .ok (.aload 4, 2) := dk_25 4 (dk_at dksJ40_putTreeVal_7 22 rfl rfl)
theorem dJ40_putTreeVal_186 : decode cJ40_putTreeVal 186 = .ok (.aload 12, 2) := dk_25 12 (dk_at dksJ40_putTreeVal_8 0 rfl rfl)
theorem dJ40_putTreeVal_188 : decode cJ40_putTreeVal 188 = .ok (.invokestatic 96, 3) := dk_184 0 96 (dk_at dksJ40_putTreeVal_8 2 rfl rfl)
theorem dJ40_putTreeVal_191 : decode cJ40_putTreeVal 191 = .ok (.istore 10, 2) := dk_54 10 (dk_at dksJ40_putTreeVal_8 5 rfl rfl)
theorem dJ40_putTreeVal_193 : decode cJ40_putTreeVal 193 = .ok (.aload 9, 2) := dk_25 9 (dk_at dksJ40_putTreeVal_8 7 rfl rfl)
theorem dJ40_putTreeVal_195 : decode cJ40_putTreeVal 195 = .ok (.astore 13, 2) := dk_58 13 (dk_at dksJ40_putTreeVal_8 9 rfl rfl)
theorem dJ40_putTreeVal_197 : decode cJ40_putTreeVal 197 = .ok (.iload 10, 2) := dk_21 10 (dk_at dksJ40_putTreeVal_8 11 rfl rfl)
theorem dJ40_putTreeVal_199 : decode cJ40_putTreeVal 199 = .ok (.ifCond .gt 11, 3) := dk_157 0 11 (dk_at dksJ40_putTreeVal_8 13 rfl rfl)
theorem dJ40_putTreeVal_202 : decode cJ40_putTreeVal 202 = .ok (.aload 9, 2) := dk_25 9 (dk_at dksJ40_putTreeVal_8 16 rfl rfl)
theorem dJ40_putTreeVal_204 : decode cJ40_putTreeVal 204 = .ok (.getfield 39, 3) := dk_180 0 39 (dk_at dksJ40_putTreeVal_8 18 rfl rfl)
theorem dJ40_putTreeVal_207 : decode cJ40_putTreeVal 207 = .ok (.goto 8, 3) := dk_167 0 8 (dk_at dksJ40_putTreeVal_8 21 rfl rfl)
theorem dJ40_putTreeVal_210 : decode cJ40_putTreeVal 210 = .ok (.aload 9, 2) := dk_25 9 (dk_at dksJ40_putTreeVal_9 0 rfl rfl)
theorem dJ40_putTreeVal_212 : decode cJ40_putTreeVal 212 = .ok (.getfield 42, 3) := dk_180 0 42 (dk_at dksJ40_putTreeVal_9 2 rfl rfl)
theorem dJ40_putTreeVal_215 : decode cJ40_putTreeVal 215 = .ok (.dup, 1) := dk_89 (dk_at dksJ40_putTreeVal_9 5 rfl rfl)
theorem dJ40_putTreeVal_216 : decode cJ40_putTreeVal 216 = .ok (.astore 9, 2) := dk_58 9 (dk_at dksJ40_putTreeVal_9 6 rfl rfl)
theorem dJ40_putTreeVal_218 : decode cJ40_putTreeVal 218 = .ok (.ifnonnull 93, 3) := dk_199 0 93 (dk_at dksJ40_putTreeVal_9 8 rfl rfl)
theorem dJ40_putTreeVal_221 : decode cJ40_putTreeVal 221 = .ok (.aload 13, 2) := dk_25 13 (dk_at dksJ40_putTreeVal_9 11 rfl rfl)
theorem dJ40_putTreeVal_223 : decode cJ40_putTreeVal 223 = .ok (.getfield 22, 3) := dk_180 0 22 (dk_at dksJ40_putTreeVal_9 13 rfl rfl)
theorem dJ40_putTreeVal_226 : decode cJ40_putTreeVal 226 = .ok (.astore 14, 2) := dk_58 14 (dk_at dksJ40_putTreeVal_9 16 rfl rfl)
theorem dJ40_putTreeVal_228 : decode cJ40_putTreeVal 228 = .ok (.aload_n 1, 1) := dk_43 (dk_at dksJ40_putTreeVal_9 18 rfl rfl)
theorem dJ40_putTreeVal_229 : decode cJ40_putTreeVal 229 = .ok (.iload_n 3, 1) := dk_29 (dk_at dksJ40_putTreeVal_9 19 rfl rfl)
theorem dJ40_putTreeVal_230 : decode cJ40_putTreeVal 230 = .ok (.aload 4, 2) := dk_25 4 (dk_at dksJ40_putTreeVal_9 20 rfl rfl)
theorem dJ40_putTreeVal_232 : decode cJ40_putTreeVal 232 = .ok (.aload 5, 2) := dk_25 5 (dk_at dksJ40_putTreeVal_9 22 rfl rfl)
theorem dJ40_putTreeVal_234 : decode cJ40_putTreeVal 234 = .ok (.aload 14, 2) := dk_25 14 (dk_at dksJ40_putTreeVal_10 0 rfl rfl)
theorem dJ40_putTreeVal_236 : decode cJ40_putTreeVal 236 = .ok (.invokevirtual 115, 3) := dk_182 0 115 (dk_at dksJ40_putTreeVal_10 2 rfl rfl)
theorem dJ40_putTreeVal_239 : decode cJ40_putTreeVal 239 = .ok (.astore 15, 2) := dk_58 15 (dk_at dksJ40_putTreeVal_10 5 rfl rfl)
theorem dJ40_putTreeVal_241 : decode cJ40_putTreeVal 241 = .ok (.iload 10, 2) := dk_21 10 (dk_at dksJ40_putTreeVal_10 7 rfl rfl)
theorem dJ40_putTreeVal_243 : decode cJ40_putTreeVal 243 = .ok (.ifCond .gt 13, 3) := dk_157 0 13 (dk_at dksJ40_putTreeVal_10 9 rfl rfl)
theorem dJ40_putTreeVal_246 : decode cJ40_putTreeVal 246 = .ok (.aload 13, 2) := dk_25 13 (dk_at dksJ40_putTreeVal_10 12 rfl rfl)
theorem dJ40_putTreeVal_248 : decode cJ40_putTreeVal 248 = .ok (.aload 15, 2) := dk_25 15 (dk_at dksJ40_putTreeVal_10 14 rfl rfl)
theorem dJ40_putTreeVal_250 : decode cJ40_putTreeVal 250 = .ok (.putfield 39, 3) := dk_181 0 39 (dk_at dksJ40_putTreeVal_10 16 rfl rfl)
theorem dJ40_putTreeVal_253 : decode cJ40_putTreeVal 253 = .ok (.goto 10, 3) := dk_167 0 10 (dk_at dksJ40_putTreeVal_10 19 rfl rfl)
theorem dJ40_putTreeVal_256 : decode cJ40_putTreeVal 256 = .ok (.aload 13, 2) := dk_25 13 (dk_at dksJ40_putTreeVal_10 22 rfl rfl)
theorem dJ40_putTreeVal_258 : decode cJ40_putTreeVal 258 = .ok (.aload 15, 2) := dk_25 15 (dk_at dksJ40_putTreeVal_11 0 rfl rfl)
theorem dJ40_putTreeVal_260 : decode cJ40_putTreeVal 260 = .ok (.putfield 42, 3) := dk_181 0 42 (dk_at dksJ40_putTreeVal_11 2 rfl rfl)
theorem dJ40_putTreeVal_263 : decode cJ40_putTreeVal 263 = .ok (.aload 13, 2) := dk_25 13 (dk_at dksJ40_putTreeVal_11 5 rfl rfl)
theorem dJ40_putTreeVal_265 : decode cJ40_putTreeVal 265 = .ok (.aload 15, 2) := dk_25 15 (dk_at dksJ40_putTreeVal_11 7 rfl rfl)
theorem dJ40_putTreeVal_267 : decode cJ40_putTreeVal 267 = .ok (.putfield 22, 3) := dk_181 0 22 (dk_at dksJ40_putTreeVal_11 9 rfl rfl)
theorem dJ40_putTreeVal_270 : decode cJ40_putTreeVal 270 = .ok (.aload 15, 2) := dk_25 15 (dk_at dksJ40_putTreeVal_11 12 rfl rfl)
theorem dJ40_putTreeVal_272 : decode cJ40_putTreeVal 272 = .ok (.aload 15, 2) := dk_25 15 (dk_at dksJ40_putTreeVal_11 14 rfl rfl)
theorem dJ40_putTreeVal_274 : decode cJ40_putTreeVal 274 = .ok (.aload 13, 2) := dk_25 13 (dk_at dksJ40_putTreeVal_11 16 rfl rfl)
theorem dJ40_putTreeVal_276 : decode cJ40_putTreeVal 276 = .ok (.dup_x1, 1) := dk_90 (dk_at dksJ40_putTreeVal_11 18 rfl rfl)
theorem dJ40_putTreeVal_277 : decode cJ40_putTreeVal 277 = .ok (.putfield 19, 3) := dk_181 0 19 (dk_at dksJ40_putTreeVal_11 19 rfl rfl)
theorem dJ40_putTreeVal_280 : decode cJ40_putTreeVal 280 = .ok (.putfield 9, 3) := dk_181 0 9 (dk_at dksJ40_putTreeVal_12 0 rfl rfl)
theorem dJ40_putTreeVal_283 : decode cJ40_putTreeVal 283 = .ok (.aload 14, 2) := dk_25 14 (dk_at dksJ40_putTreeVal_12 3 rfl rfl)
theorem dJ40_putTreeVal_285 : decode cJ40_putTreeVal 285 = .ok (.ifnull 13, 3) := dk_198 0 13 (dk_at dksJ40_putTreeVal_12 5 rfl rfl)
theorem dJ40_putTreeVal_288 : decode cJ40_putTreeVal 288 = .ok (.aload 14, 2) := dk_25 14 (dk_at dksJ40_putTreeVal_12 8 rfl rfl)
theorem dJ40_putTreeVal_290 : decode cJ40_putTreeVal 290 = .ok (.checkcast 10, 3) := dk_192 0 10 (dk_at dksJ40_putTreeVal_12 10 rfl rfl)
theorem dJ40_putTreeVal_293 : decode cJ40_putTreeVal 293 = .ok (.aload 15, 2) := dk_25 15 (dk_at dksJ40_putTreeVal_12 13 rfl rfl)
theorem dJ40_putTreeVal_295 : decode cJ40_putTreeVal 295 = .ok (.putfield 19, 3) := dk_181 0 19 (dk_at dksJ40_putTreeVal_12 15 rfl rfl)
theorem dJ40_putTreeVal_298 : decode cJ40_putTreeVal 298 = .ok (.aload_n 2, 1) := dk_44 (dk_at dksJ40_putTreeVal_12 18 rfl rfl)
theorem dJ40_putTreeVal_299 : decode cJ40_putTreeVal 299 = .ok (.aload 8, 2) := dk_25 8 (dk_at dksJ40_putTreeVal_12 19 rfl rfl)
theorem dJ40_putTreeVal_301 : decode cJ40_putTreeVal 301 = .ok (.aload 15, 2) := dk_25 15 (dk_at dksJ40_putTreeVal_12 21 rfl rfl)
theorem dJ40_putTreeVal_303 : decode cJ40_putTreeVal 303 = .ok (.invokestatic 100, 3) := dk_184 0 100 (dk_at dksJ40_putTreeVal_13 0 rfl rfl)
theorem dJ40_putTreeVal_306 : decode cJ40_putTreeVal 306 = .ok (.invokestatic 104, 3) := dk_184 0 104 (dk_at dksJ40_putTreeVal_13 3 rfl rfl)
theorem dJ40_putTreeVal_309 : decode cJ40_putTreeVal 309 = .ok (.aconst_null, 1) := dk_1 (dk_at dksJ40_putTreeVal_13 6 rfl rfl)
theorem dJ40_putTreeVal_310 : decode cJ40_putTreeVal 310 = .ok (.areturn, 1) := dk_176 (dk_at dksJ40_putTreeVal_13 7 rfl rfl)
theorem dJ40_putTreeVal_311 : decode cJ40_putTreeVal 311 = .ok (.goto (-284), 3) := dk_167 254 228 (dk_at dksJ40_putTreeVal_13 8 rfl rfl)
abbrev cJ40_init : ByteArray := prog_70_method_1_code
def yJ40_init : MethodName := ⟨RJ40, "<init>", "(ILjava/lang/Object;Ljava/lang/Object;Ljava/util/HashMap$Node;)V"⟩
def dkwJ40_init_0 : List UInt8 := [42, 27, 44, 45, 25, 4, 183, 0, 3, 177]
abbrev dktJ40_init_0 : List UInt8 := dkwJ40_init_0 ++ []
theorem dksJ40_init_0 : cJ40_init.data.toList.drop 0 = dktJ40_init_0 := by decide +kernel
theorem dJ40_init_0 : decode cJ40_init 0 = .ok (.aload_n 0, 1) := dk_42 (dk_at dksJ40_init_0 0 rfl rfl)
theorem dJ40_init_1 : decode cJ40_init 1 = .ok (.iload_n 1, 1) := dk_27 (dk_at dksJ40_init_0 1 rfl rfl)
theorem dJ40_init_2 : decode cJ40_init 2 = .ok (.aload_n 2, 1) := dk_44 (dk_at dksJ40_init_0 2 rfl rfl)
theorem dJ40_init_3 : decode cJ40_init 3 = .ok (.aload_n 3, 1) := dk_45 (dk_at dksJ40_init_0 3 rfl rfl)
theorem dJ40_init_4 : decode cJ40_init 4 = .ok (.aload 4, 2) := dk_25 4 (dk_at dksJ40_init_0 4 rfl rfl)
theorem dJ40_init_6 : decode cJ40_init 6 = .ok (.invokespecial 3, 3) := dk_183 0 3 (dk_at dksJ40_init_0 6 rfl rfl)
theorem dJ40_init_9 : decode cJ40_init 9 = .ok (.return_, 1) := dk_177 (dk_at dksJ40_init_0 9 rfl rfl)
abbrev cJ40_removeTreeNode : ByteArray := prog_70_method_10_code
def yJ40_removeTreeNode : MethodName := ⟨RJ40, "removeTreeNode", "(Ljava/util/HashMap;[Ljava/util/HashMap$Node;Z)V"⟩
def dkwJ40_removeTreeNode_27 : List UInt8 := [25, 15, 184, 0, 104, 177]
abbrev dktJ40_removeTreeNode_27 : List UInt8 := dkwJ40_removeTreeNode_27 ++ []
def dkwJ40_removeTreeNode_26 : List UInt8 := [167, 0, 19, 25, 11, 25, 16, 180, 0, 42, 166, 0, 9, 25, 16, 1, 181, 0, 42, 29, 153, 0, 9, 44]
abbrev dktJ40_removeTreeNode_26 : List UInt8 := dkwJ40_removeTreeNode_26 ++ dktJ40_removeTreeNode_27
def dkwJ40_removeTreeNode_25 : List UInt8 := [181, 0, 9, 25, 16, 198, 0, 38, 25, 11, 25, 16, 180, 0, 39, 166, 0, 12, 25, 16, 1, 181, 0, 39]
abbrev dktJ40_removeTreeNode_25 : List UInt8 := dkwJ40_removeTreeNode_25 ++ dktJ40_removeTreeNode_26
def dkwJ40_removeTreeNode_24 : List UInt8 := [184, 0, 123, 58, 15, 25, 14, 25, 11, 166, 0, 56, 25, 11, 180, 0, 9, 58, 16, 25, 11, 1]
abbrev dktJ40_removeTreeNode_24 : List UInt8 := dkwJ40_removeTreeNode_24 ++ dktJ40_removeTreeNode_25
def dkwJ40_removeTreeNode_23 : List UInt8 := [181, 0, 42, 181, 0, 39, 25, 11, 180, 0, 93, 153, 0, 8, 25, 7, 167, 0, 10, 25, 7, 25, 14]
abbrev dktJ40_removeTreeNode_23 : List UInt8 := dkwJ40_removeTreeNode_23 ++ dktJ40_removeTreeNode_24
def dkwJ40_removeTreeNode_22 : List UInt8 := [167, 0, 10, 25, 15, 25, 14, 181, 0, 42, 25, 11, 25, 11, 25, 11, 1, 90, 181, 0, 9, 90]
abbrev dktJ40_removeTreeNode_22 : List UInt8 := dkwJ40_removeTreeNode_22 ++ dktJ40_removeTreeNode_23
def dkwJ40_removeTreeNode_21 : List UInt8 := [181, 0, 93, 167, 0, 30, 25, 11, 25, 15, 180, 0, 39, 166, 0, 13, 25, 15, 25, 14, 181, 0, 39]
abbrev dktJ40_removeTreeNode_21 : List UInt8 := dkwJ40_removeTreeNode_21 ++ dktJ40_removeTreeNode_22
def dkwJ40_removeTreeNode_20 : List UInt8 := [25, 11, 180, 0, 9, 90, 181, 0, 9, 58, 15, 25, 15, 199, 0, 15, 25, 14, 89, 58, 7, 3]
abbrev dktJ40_removeTreeNode_20 : List UInt8 := dkwJ40_removeTreeNode_20 ++ dktJ40_removeTreeNode_21
def dkwJ40_removeTreeNode_19 : List UInt8 := [198, 0, 10, 25, 13, 58, 14, 167, 0, 7, 25, 11, 58, 14, 25, 14, 25, 11, 165, 0, 78, 25, 14]
abbrev dktJ40_removeTreeNode_19 : List UInt8 := dkwJ40_removeTreeNode_19 ++ dktJ40_removeTreeNode_20
def dkwJ40_removeTreeNode_18 : List UInt8 := [167, 0, 7, 25, 11, 58, 14, 167, 0, 31, 25, 12, 198, 0, 10, 25, 12, 58, 14, 167, 0, 19, 25, 13]
abbrev dktJ40_removeTreeNode_18 : List UInt8 := dkwJ40_removeTreeNode_18 ++ dktJ40_removeTreeNode_19
def dkwJ40_removeTreeNode_17 : List UInt8 := [181, 0, 39, 167, 0, 10, 25, 19, 25, 15, 181, 0, 42, 25, 18, 198, 0, 10, 25, 18, 58, 14]
abbrev dktJ40_removeTreeNode_17 : List UInt8 := dkwJ40_removeTreeNode_17 ++ dktJ40_removeTreeNode_18
def dkwJ40_removeTreeNode_16 : List UInt8 := [199, 0, 10, 25, 15, 58, 7, 167, 0, 30, 25, 11, 25, 19, 180, 0, 39, 166, 0, 13, 25, 19, 25, 15]
abbrev dktJ40_removeTreeNode_16 : List UInt8 := dkwJ40_removeTreeNode_16 ++ dktJ40_removeTreeNode_17
def dkwJ40_removeTreeNode_15 : List UInt8 := [25, 12, 90, 181, 0, 39, 198, 0, 10, 25, 12, 25, 15, 181, 0, 9, 25, 15, 25, 19, 90, 181, 0, 9]
abbrev dktJ40_removeTreeNode_15 : List UInt8 := dkwJ40_removeTreeNode_15 ++ dktJ40_removeTreeNode_16
def dkwJ40_removeTreeNode_14 : List UInt8 := [181, 0, 39, 25, 11, 25, 18, 90, 181, 0, 42, 198, 0, 10, 25, 18, 25, 11, 181, 0, 9, 25, 15]
abbrev dktJ40_removeTreeNode_14 : List UInt8 := dkwJ40_removeTreeNode_14 ++ dktJ40_removeTreeNode_15
def dkwJ40_removeTreeNode_13 : List UInt8 := [181, 0, 42, 25, 15, 25, 13, 90, 181, 0, 42, 198, 0, 10, 25, 13, 25, 15, 181, 0, 9, 25, 11, 1]
abbrev dktJ40_removeTreeNode_13 : List UInt8 := dkwJ40_removeTreeNode_13 ++ dktJ40_removeTreeNode_14
def dkwJ40_removeTreeNode_12 : List UInt8 := [25, 15, 25, 20, 180, 0, 39, 166, 0, 13, 25, 20, 25, 11, 181, 0, 39, 167, 0, 10, 25, 20, 25, 11]
abbrev dktJ40_removeTreeNode_12 : List UInt8 := dkwJ40_removeTreeNode_12 ++ dktJ40_removeTreeNode_13
def dkwJ40_removeTreeNode_11 : List UInt8 := [181, 0, 42, 167, 0, 66, 25, 15, 180, 0, 9, 58, 20, 25, 11, 25, 20, 90, 181, 0, 9, 198, 0, 30]
abbrev dktJ40_removeTreeNode_11 : List UInt8 := dkwJ40_removeTreeNode_11 ++ dktJ40_removeTreeNode_12
def dkwJ40_removeTreeNode_10 : List UInt8 := [180, 0, 9, 58, 19, 25, 15, 25, 13, 166, 0, 20, 25, 11, 25, 15, 181, 0, 9, 25, 15, 25, 11]
abbrev dktJ40_removeTreeNode_10 : List UInt8 := dkwJ40_removeTreeNode_10 ++ dktJ40_removeTreeNode_11
def dkwJ40_removeTreeNode_9 : List UInt8 := [180, 0, 93, 181, 0, 93, 25, 11, 21, 17, 181, 0, 93, 25, 15, 180, 0, 42, 58, 18, 25, 11]
abbrev dktJ40_removeTreeNode_9 : List UInt8 := dkwJ40_removeTreeNode_9 ++ dktJ40_removeTreeNode_10
def dkwJ40_removeTreeNode_8 : List UInt8 := [89, 58, 16, 198, 0, 10, 25, 16, 58, 15, 167, 255, 241, 25, 15, 180, 0, 93, 54, 17, 25, 15, 25, 11]
abbrev dktJ40_removeTreeNode_8 : List UInt8 := dkwJ40_removeTreeNode_8 ++ dktJ40_removeTreeNode_9
def dkwJ40_removeTreeNode_7 : List UInt8 := [180, 0, 42, 58, 13, 25, 12, 198, 1, 5, 25, 13, 198, 1, 0, 25, 13, 58, 15, 25, 15, 180, 0, 39]
abbrev dktJ40_removeTreeNode_7 : List UInt8 := dkwJ40_removeTreeNode_7 ++ dktJ40_removeTreeNode_8
def dkwJ40_removeTreeNode_6 : List UInt8 := [199, 0, 14, 44, 21, 5, 25, 6, 43, 182, 0, 119, 83, 177, 42, 58, 11, 42, 180, 0, 39, 58, 12, 42]
abbrev dktJ40_removeTreeNode_6 : List UInt8 := dkwJ40_removeTreeNode_6 ++ dktJ40_removeTreeNode_7
def dkwJ40_removeTreeNode_5 : List UInt8 := [25, 7, 180, 0, 42, 198, 0, 22, 25, 7, 180, 0, 39, 89, 58, 8, 198, 0, 11, 25, 8, 180, 0, 39]
abbrev dktJ40_removeTreeNode_5 : List UInt8 := dkwJ40_removeTreeNode_5 ++ dktJ40_removeTreeNode_6
def dkwJ40_removeTreeNode_4 : List UInt8 := [25, 7, 180, 0, 9, 198, 0, 10, 25, 7, 182, 0, 67, 58, 7, 25, 7, 198, 0, 34, 29, 153, 0, 41]
abbrev dktJ40_removeTreeNode_4 : List UInt8 := dkwJ40_removeTreeNode_4 ++ dktJ40_removeTreeNode_5
def dkwJ40_removeTreeNode_3 : List UInt8 := [25, 9, 181, 0, 22, 25, 9, 198, 0, 10, 25, 9, 25, 10, 181, 0, 19, 25, 6, 199, 0, 4, 177]
abbrev dktJ40_removeTreeNode_3 : List UInt8 := dkwJ40_removeTreeNode_3 ++ dktJ40_removeTreeNode_4
def dkwJ40_removeTreeNode_2 : List UInt8 := [180, 0, 19, 58, 10, 25, 10, 199, 0, 15, 44, 21, 5, 25, 9, 89, 58, 6, 83, 167, 0, 10, 25, 10]
abbrev dktJ40_removeTreeNode_2 : List UInt8 := dkwJ40_removeTreeNode_2 ++ dktJ40_removeTreeNode_3
def dkwJ40_removeTreeNode_1 : List UInt8 := [44, 21, 5, 50, 192, 0, 10, 58, 6, 25, 6, 58, 7, 42, 180, 0, 22, 192, 0, 10, 58, 9, 42]
abbrev dktJ40_removeTreeNode_1 : List UInt8 := dkwJ40_removeTreeNode_1 ++ dktJ40_removeTreeNode_2
def dkwJ40_removeTreeNode_0 : List UInt8 := [44, 198, 0, 11, 44, 190, 89, 54, 4, 154, 0, 4, 177, 21, 4, 4, 100, 42, 180, 0, 15, 126, 54, 5]
abbrev dktJ40_removeTreeNode_0 : List UInt8 := dkwJ40_removeTreeNode_0 ++ dktJ40_removeTreeNode_1
theorem dksJ40_removeTreeNode_0 : cJ40_removeTreeNode.data.toList.drop 0 = dktJ40_removeTreeNode_0 := by decide +kernel
theorem dksJ40_removeTreeNode_1 : cJ40_removeTreeNode.data.toList.drop 24 = dktJ40_removeTreeNode_1 := dk_seg dksJ40_removeTreeNode_0 24 rfl rfl
theorem dksJ40_removeTreeNode_2 : cJ40_removeTreeNode.data.toList.drop 47 = dktJ40_removeTreeNode_2 := dk_seg dksJ40_removeTreeNode_1 23 rfl rfl
theorem dksJ40_removeTreeNode_3 : cJ40_removeTreeNode.data.toList.drop 71 = dktJ40_removeTreeNode_3 := dk_seg dksJ40_removeTreeNode_2 24 rfl rfl
theorem dksJ40_removeTreeNode_4 : cJ40_removeTreeNode.data.toList.drop 94 = dktJ40_removeTreeNode_4 := dk_seg dksJ40_removeTreeNode_3 23 rfl rfl
theorem dksJ40_removeTreeNode_5 : cJ40_removeTreeNode.data.toList.drop 118 = dktJ40_removeTreeNode_5 := dk_seg dksJ40_removeTreeNode_4 24 rfl rfl
theorem dksJ40_removeTreeNode_6 : cJ40_removeTreeNode.data.toList.drop 142 = dktJ40_removeTreeNode_6 := dk_seg dksJ40_removeTreeNode_5 24 rfl rfl
theorem dksJ40_removeTreeNode_7 : cJ40_removeTreeNode.data.toList.drop 166 = dktJ40_removeTreeNode_7 := dk_seg dksJ40_removeTreeNode_6 24 rfl rfl
theorem dksJ40_removeTreeNode_8 : cJ40_removeTreeNode.data.toList.drop 190 = dktJ40_removeTreeNode_8 := dk_seg dksJ40_removeTreeNode_7 24 rfl rfl
theorem dksJ40_removeTreeNode_9 : cJ40_removeTreeNode.data.toList.drop 214 = dktJ40_removeTreeNode_9 := dk_seg dksJ40_removeTreeNode_8 24 rfl rfl
theorem dksJ40_removeTreeNode_10 : cJ40_removeTreeNode.data.toList.drop 236 = dktJ40_removeTreeNode_10 := dk_seg dksJ40_removeTreeNode_9 22 rfl rfl
theorem dksJ40_removeTreeNode_11 : cJ40_removeTreeNode.data.toList.drop 259 = dktJ40_removeTreeNode_11 := dk_seg dksJ40_removeTreeNode_10 23 rfl rfl
theorem dksJ40_removeTreeNode_12 : cJ40_removeTreeNode.data.toList.drop 283 = dktJ40_removeTreeNode_12 := dk_seg dksJ40_removeTreeNode_11 24 rfl rfl
theorem dksJ40_removeTreeNode_13 : cJ40_removeTreeNode.data.toList.drop 307 = dktJ40_removeTreeNode_13 := dk_seg dksJ40_removeTreeNode_12 24 rfl rfl
theorem dksJ40_removeTreeNode_14 : cJ40_removeTreeNode.data.toList.drop 331 = dktJ40_removeTreeNode_14 := dk_seg dksJ40_removeTreeNode_13 24 rfl rfl
theorem dksJ40_removeTreeNode_15 : cJ40_removeTreeNode.data.toList.drop 354 = dktJ40_removeTreeNode_15 := dk_seg dksJ40_removeTreeNode_14 23 rfl rfl
theorem dksJ40_removeTreeNode_16 : cJ40_removeTreeNode.data.toList.drop 378 = dktJ40_removeTreeNode_16 := dk_seg dksJ40_removeTreeNode_15 24 rfl rfl
theorem dksJ40_removeTreeNode_17 : cJ40_removeTreeNode.data.toList.drop 402 = dktJ40_removeTreeNode_17 := dk_seg dksJ40_removeTreeNode_16 24 rfl rfl
theorem dksJ40_removeTreeNode_18 : cJ40_removeTreeNode.data.toList.drop 424 = dktJ40_removeTreeNode_18 := dk_seg dksJ40_removeTreeNode_17 22 rfl rfl
theorem dksJ40_removeTreeNode_19 : cJ40_removeTreeNode.data.toList.drop 448 = dktJ40_removeTreeNode_19 := dk_seg dksJ40_removeTreeNode_18 24 rfl rfl
theorem dksJ40_removeTreeNode_20 : cJ40_removeTreeNode.data.toList.drop 471 = dktJ40_removeTreeNode_20 := dk_seg dksJ40_removeTreeNode_19 23 rfl rfl
theorem dksJ40_removeTreeNode_21 : cJ40_removeTreeNode.data.toList.drop 493 = dktJ40_removeTreeNode_21 := dk_seg dksJ40_removeTreeNode_20 22 rfl rfl
theorem dksJ40_removeTreeNode_22 : cJ40_removeTreeNode.data.toList.drop 516 = dktJ40_removeTreeNode_22 := dk_seg dksJ40_removeTreeNode_21 23 rfl rfl
theorem dksJ40_removeTreeNode_23 : cJ40_removeTreeNode.data.toList.drop 538 = dktJ40_removeTreeNode_23 := dk_seg dksJ40_removeTreeNode_22 22 rfl rfl
theorem dksJ40_removeTreeNode_24 : cJ40_removeTreeNode.data.toList.drop 561 = dktJ40_removeTreeNode_24 := dk_seg dksJ40_removeTreeNode_23 23 rfl rfl
theorem dksJ40_removeTreeNode_25 : cJ40_removeTreeNode.data.toList.drop 583 = dktJ40_removeTreeNode_25 := dk_seg dksJ40_removeTreeNode_24 22 rfl rfl
theorem dksJ40_removeTreeNode_26 : cJ40_removeTreeNode.data.toList.drop 607 = dktJ40_removeTreeNode_26 := dk_seg dksJ40_removeTreeNode_25 24 rfl rfl
theorem dksJ40_removeTreeNode_27 : cJ40_removeTreeNode.data.toList.drop 631 = dktJ40_removeTreeNode_27 := dk_seg dksJ40_removeTreeNode_26 24 rfl rfl
theorem dJ40_removeTreeNode_0 : decode cJ40_removeTreeNode 0 = .ok (.aload_n 2, 1) := dk_44 (dk_at dksJ40_removeTreeNode_0 0 rfl rfl)
theorem dJ40_removeTreeNode_1 : decode cJ40_removeTreeNode 1 = .ok (.ifnull 11, 3) := dk_198 0 11 (dk_at dksJ40_removeTreeNode_0 1 rfl rfl)
theorem dJ40_removeTreeNode_4 : decode cJ40_removeTreeNode 4 = .ok (.aload_n 2, 1) := dk_44 (dk_at dksJ40_removeTreeNode_0 4 rfl rfl)
theorem dJ40_removeTreeNode_5 : decode cJ40_removeTreeNode 5 = .ok (.arraylength, 1) := dk_190 (dk_at dksJ40_removeTreeNode_0 5 rfl rfl)
theorem dJ40_removeTreeNode_6 : decode cJ40_removeTreeNode 6 = .ok (.dup, 1) := dk_89 (dk_at dksJ40_removeTreeNode_0 6 rfl rfl)
theorem dJ40_removeTreeNode_7 : decode cJ40_removeTreeNode 7 = .ok (.istore 4, 2) := dk_54 4 (dk_at dksJ40_removeTreeNode_0 7 rfl rfl)
theorem dJ40_removeTreeNode_9 : decode cJ40_removeTreeNode 9 = .ok (.ifCond .ne 4, 3) := dk_154 0 4 (dk_at dksJ40_removeTreeNode_0 9 rfl rfl)
theorem dJ40_removeTreeNode_12 : decode cJ40_removeTreeNode 12 = .ok (.return_, 1) := dk_177 (dk_at dksJ40_removeTreeNode_0 12 rfl rfl)
theorem dJ40_removeTreeNode_13 : decode cJ40_removeTreeNode 13 = .ok (.iload 4, 2) := dk_21 4 (dk_at dksJ40_removeTreeNode_0 13 rfl rfl)
theorem dJ40_removeTreeNode_15 : decode cJ40_removeTreeNode 15 = .ok (.iconst 1, 1) := dk_4 (dk_at dksJ40_removeTreeNode_0 15 rfl rfl)
theorem dJ40_removeTreeNode_16 : decode cJ40_removeTreeNode 16 = .ok (.isub, 1) := dk_100 (dk_at dksJ40_removeTreeNode_0 16 rfl rfl)
theorem dJ40_removeTreeNode_17 : decode cJ40_removeTreeNode 17 = .ok (.aload_n 0, 1) := dk_42 (dk_at dksJ40_removeTreeNode_0 17 rfl rfl)
theorem dJ40_removeTreeNode_18 : decode cJ40_removeTreeNode 18 = .ok (.getfield 15, 3) := dk_180 0 15 (dk_at dksJ40_removeTreeNode_0 18 rfl rfl)
theorem dJ40_removeTreeNode_21 : decode cJ40_removeTreeNode 21 = .ok (.iand, 1) := dk_126 (dk_at dksJ40_removeTreeNode_0 21 rfl rfl)
theorem dJ40_removeTreeNode_22 : decode cJ40_removeTreeNode 22 = .ok (.istore 5, 2) := dk_54 5 (dk_at dksJ40_removeTreeNode_0 22 rfl rfl)
theorem dJ40_removeTreeNode_24 : decode cJ40_removeTreeNode 24 = .ok (.aload_n 2, 1) := dk_44 (dk_at dksJ40_removeTreeNode_1 0 rfl rfl)
theorem dJ40_removeTreeNode_25 : decode cJ40_removeTreeNode 25 = .ok (.iload 5, 2) := dk_21 5 (dk_at dksJ40_removeTreeNode_1 1 rfl rfl)
theorem dJ40_removeTreeNode_27 : decode cJ40_removeTreeNode 27 = .ok (.aaload, 1) := dk_50 (dk_at dksJ40_removeTreeNode_1 3 rfl rfl)
theorem dJ40_removeTreeNode_28 : decode cJ40_removeTreeNode 28 = .ok (.checkcast 10, 3) := dk_192 0 10 (dk_at dksJ40_removeTreeNode_1 4 rfl rfl)
theorem dJ40_removeTreeNode_31 : decode cJ40_removeTreeNode 31 = .ok (.astore 6, 2) := dk_58 6 (dk_at dksJ40_removeTreeNode_1 7 rfl rfl)
theorem dJ40_removeTreeNode_33 : decode cJ40_removeTreeNode 33 = .ok (.aload 6, 2) := dk_25 6 (dk_at dksJ40_removeTreeNode_1 9 rfl rfl)
theorem dJ40_removeTreeNode_35 : decode cJ40_removeTreeNode 35 = .ok (.astore 7, 2) := dk_58 7 (dk_at dksJ40_removeTreeNode_1 11 rfl rfl)
theorem dJ40_removeTreeNode_37 : decode cJ40_removeTreeNode 37 = .ok (.aload_n 0, 1) := dk_42 (dk_at dksJ40_removeTreeNode_1 13 rfl rfl)
theorem dJ40_removeTreeNode_38 : decode cJ40_removeTreeNode 38 = .ok (.getfield 22, 3) := dk_180 0 22 (dk_at dksJ40_removeTreeNode_1 14 rfl rfl)
theorem dJ40_removeTreeNode_41 : decode cJ40_removeTreeNode 41 = .ok (.checkcast 10, 3) := dk_192 0 10 (dk_at dksJ40_removeTreeNode_1 17 rfl rfl)
theorem dJ40_removeTreeNode_44 : decode cJ40_removeTreeNode 44 = .ok (.astore 9, 2) := dk_58 9 (dk_at dksJ40_removeTreeNode_1 20 rfl rfl)
theorem dJ40_removeTreeNode_46 : decode cJ40_removeTreeNode 46 = .ok (.aload_n 0, 1) := dk_42 (dk_at dksJ40_removeTreeNode_1 22 rfl rfl)
theorem dJ40_removeTreeNode_47 : decode cJ40_removeTreeNode 47 = .ok (.getfield 19, 3) := dk_180 0 19 (dk_at dksJ40_removeTreeNode_2 0 rfl rfl)
theorem dJ40_removeTreeNode_50 : decode cJ40_removeTreeNode 50 = .ok (.astore 10, 2) := dk_58 10 (dk_at dksJ40_removeTreeNode_2 3 rfl rfl)
theorem dJ40_removeTreeNode_52 : decode cJ40_removeTreeNode 52 = .ok (.aload 10, 2) := dk_25 10 (dk_at dksJ40_removeTreeNode_2 5 rfl rfl)
theorem dJ40_removeTreeNode_54 : decode cJ40_removeTreeNode 54 = .ok (.ifnonnull 15, 3) := dk_199 0 15 (dk_at dksJ40_removeTreeNode_2 7 rfl rfl)
theorem dJ40_removeTreeNode_57 : decode cJ40_removeTreeNode 57 = .ok (.aload_n 2, 1) := dk_44 (dk_at dksJ40_removeTreeNode_2 10 rfl rfl)
theorem dJ40_removeTreeNode_58 : decode cJ40_removeTreeNode 58 = .ok (.iload 5, 2) := dk_21 5 (dk_at dksJ40_removeTreeNode_2 11 rfl rfl)
theorem dJ40_removeTreeNode_60 : decode cJ40_removeTreeNode 60 = .ok (.aload 9, 2) := dk_25 9 (dk_at dksJ40_removeTreeNode_2 13 rfl rfl)
theorem dJ40_removeTreeNode_62 : decode cJ40_removeTreeNode 62 = .ok (.dup, 1) := dk_89 (dk_at dksJ40_removeTreeNode_2 15 rfl rfl)
theorem dJ40_removeTreeNode_63 : decode cJ40_removeTreeNode 63 = .ok (.astore 6, 2) := dk_58 6 (dk_at dksJ40_removeTreeNode_2 16 rfl rfl)
theorem dJ40_removeTreeNode_65 : decode cJ40_removeTreeNode 65 = .ok (.aastore, 1) := dk_83 (dk_at dksJ40_removeTreeNode_2 18 rfl rfl)
theorem dJ40_removeTreeNode_66 : decode cJ40_removeTreeNode 66 = .ok (.goto 10, 3) := dk_167 0 10 (dk_at dksJ40_removeTreeNode_2 19 rfl rfl)
theorem dJ40_removeTreeNode_69 : decode cJ40_removeTreeNode 69 = .ok (.aload 10, 2) := dk_25 10 (dk_at dksJ40_removeTreeNode_2 22 rfl rfl)
theorem dJ40_removeTreeNode_71 : decode cJ40_removeTreeNode 71 = .ok (.aload 9, 2) := dk_25 9 (dk_at dksJ40_removeTreeNode_3 0 rfl rfl)
theorem dJ40_removeTreeNode_73 : decode cJ40_removeTreeNode 73 = .ok (.putfield 22, 3) := dk_181 0 22 (dk_at dksJ40_removeTreeNode_3 2 rfl rfl)
theorem dJ40_removeTreeNode_76 : decode cJ40_removeTreeNode 76 = .ok (.aload 9, 2) := dk_25 9 (dk_at dksJ40_removeTreeNode_3 5 rfl rfl)
theorem dJ40_removeTreeNode_78 : decode cJ40_removeTreeNode 78 = .ok (.ifnull 10, 3) := dk_198 0 10 (dk_at dksJ40_removeTreeNode_3 7 rfl rfl)
theorem dJ40_removeTreeNode_81 : decode cJ40_removeTreeNode 81 = .ok (.aload 9, 2) := dk_25 9 (dk_at dksJ40_removeTreeNode_3 10 rfl rfl)
theorem dJ40_removeTreeNode_83 : decode cJ40_removeTreeNode 83 = .ok (.aload 10, 2) := dk_25 10 (dk_at dksJ40_removeTreeNode_3 12 rfl rfl)
theorem dJ40_removeTreeNode_85 : decode cJ40_removeTreeNode 85 = .ok (.putfield 19, 3) := dk_181 0 19 (dk_at dksJ40_removeTreeNode_3 14 rfl rfl)
theorem dJ40_removeTreeNode_88 : decode cJ40_removeTreeNode 88 = .ok (.aload 6, 2) := dk_25 6 (dk_at dksJ40_removeTreeNode_3 17 rfl rfl)
theorem dJ40_removeTreeNode_90 : decode cJ40_removeTreeNode 90 = .ok (.ifnonnull 4, 3) := dk_199 0 4 (dk_at dksJ40_removeTreeNode_3 19 rfl rfl)
theorem dJ40_removeTreeNode_93 : decode cJ40_removeTreeNode 93 = .ok (.return_, 1) := dk_177 (dk_at dksJ40_removeTreeNode_3 22 rfl rfl)
theorem dJ40_removeTreeNode_94 : decode cJ40_removeTreeNode 94 = .ok (.aload 7, 2) := dk_25 7 (dk_at dksJ40_removeTreeNode_4 0 rfl rfl)
theorem dJ40_removeTreeNode_96 : decode cJ40_removeTreeNode 96 = .ok (.getfield 9, 3) := dk_180 0 9 (dk_at dksJ40_removeTreeNode_4 2 rfl rfl)
theorem dJ40_removeTreeNode_99 : decode cJ40_removeTreeNode 99 = .ok (.ifnull 10, 3) := dk_198 0 10 (dk_at dksJ40_removeTreeNode_4 5 rfl rfl)
theorem dJ40_removeTreeNode_102 : decode cJ40_removeTreeNode 102 = .ok (.aload 7, 2) := dk_25 7 (dk_at dksJ40_removeTreeNode_4 8 rfl rfl)
theorem dJ40_removeTreeNode_104 : decode cJ40_removeTreeNode 104 = .ok (.invokevirtual 67, 3) := dk_182 0 67 (dk_at dksJ40_removeTreeNode_4 10 rfl rfl)
theorem dJ40_removeTreeNode_107 : decode cJ40_removeTreeNode 107 = .ok (.astore 7, 2) := dk_58 7 (dk_at dksJ40_removeTreeNode_4 13 rfl rfl)
theorem dJ40_removeTreeNode_109 : decode cJ40_removeTreeNode 109 = .ok (.aload 7, 2) := dk_25 7 (dk_at dksJ40_removeTreeNode_4 15 rfl rfl)
theorem dJ40_removeTreeNode_111 : decode cJ40_removeTreeNode 111 = .ok (.ifnull 34, 3) := dk_198 0 34 (dk_at dksJ40_removeTreeNode_4 17 rfl rfl)
theorem dJ40_removeTreeNode_114 : decode cJ40_removeTreeNode 114 = .ok (.iload_n 3, 1) := dk_29 (dk_at dksJ40_removeTreeNode_4 20 rfl rfl)
theorem dJ40_removeTreeNode_115 : decode cJ40_removeTreeNode 115 = .ok (.ifCond .eq 41, 3) := dk_153 0 41 (dk_at dksJ40_removeTreeNode_4 21 rfl rfl)
theorem dJ40_removeTreeNode_118 : decode cJ40_removeTreeNode 118 = .ok (.aload 7, 2) := dk_25 7 (dk_at dksJ40_removeTreeNode_5 0 rfl rfl)
theorem dJ40_removeTreeNode_120 : decode cJ40_removeTreeNode 120 = .ok (.getfield 42, 3) := dk_180 0 42 (dk_at dksJ40_removeTreeNode_5 2 rfl rfl)
theorem dJ40_removeTreeNode_123 : decode cJ40_removeTreeNode 123 = .ok (.ifnull 22, 3) := dk_198 0 22 (dk_at dksJ40_removeTreeNode_5 5 rfl rfl)
theorem dJ40_removeTreeNode_126 : decode cJ40_removeTreeNode 126 = .ok (.aload 7, 2) := dk_25 7 (dk_at dksJ40_removeTreeNode_5 8 rfl rfl)
theorem dJ40_removeTreeNode_128 : decode cJ40_removeTreeNode 128 = .ok (.getfield 39, 3) := dk_180 0 39 (dk_at dksJ40_removeTreeNode_5 10 rfl rfl)
theorem dJ40_removeTreeNode_131 : decode cJ40_removeTreeNode 131 = .ok (.dup, 1) := dk_89 (dk_at dksJ40_removeTreeNode_5 13 rfl rfl)
theorem dJ40_removeTreeNode_132 : decode cJ40_removeTreeNode 132 = .ok (.astore 8, 2) := dk_58 8 (dk_at dksJ40_removeTreeNode_5 14 rfl rfl)
theorem dJ40_removeTreeNode_134 : decode cJ40_removeTreeNode 134 = .ok (.ifnull 11, 3) := dk_198 0 11 (dk_at dksJ40_removeTreeNode_5 16 rfl rfl)
theorem dJ40_removeTreeNode_137 : decode cJ40_removeTreeNode 137 = .ok (.aload 8, 2) := dk_25 8 (dk_at dksJ40_removeTreeNode_5 19 rfl rfl)
theorem dJ40_removeTreeNode_139 : decode cJ40_removeTreeNode 139 = .ok (.getfield 39, 3) := dk_180 0 39 (dk_at dksJ40_removeTreeNode_5 21 rfl rfl)
theorem dJ40_removeTreeNode_142 : decode cJ40_removeTreeNode 142 = .ok (.ifnonnull 14, 3) := dk_199 0 14 (dk_at dksJ40_removeTreeNode_6 0 rfl rfl)
theorem dJ40_removeTreeNode_145 : decode cJ40_removeTreeNode 145 = .ok (.aload_n 2, 1) := dk_44 (dk_at dksJ40_removeTreeNode_6 3 rfl rfl)
theorem dJ40_removeTreeNode_146 : decode cJ40_removeTreeNode 146 = .ok (.iload 5, 2) := dk_21 5 (dk_at dksJ40_removeTreeNode_6 4 rfl rfl)
theorem dJ40_removeTreeNode_148 : decode cJ40_removeTreeNode 148 = .ok (.aload 6, 2) := dk_25 6 (dk_at dksJ40_removeTreeNode_6 6 rfl rfl)
theorem dJ40_removeTreeNode_150 : decode cJ40_removeTreeNode 150 = .ok (.aload_n 1, 1) := dk_43 (dk_at dksJ40_removeTreeNode_6 8 rfl rfl)
theorem dJ40_removeTreeNode_151 : decode cJ40_removeTreeNode 151 = .ok (.invokevirtual 119, 3) := dk_182 0 119 (dk_at dksJ40_removeTreeNode_6 9 rfl rfl)
theorem dJ40_removeTreeNode_154 : decode cJ40_removeTreeNode 154 = .ok (.aastore, 1) := dk_83 (dk_at dksJ40_removeTreeNode_6 12 rfl rfl)
theorem dJ40_removeTreeNode_155 : decode cJ40_removeTreeNode 155 = .ok (.return_, 1) := dk_177 (dk_at dksJ40_removeTreeNode_6 13 rfl rfl)
theorem dJ40_removeTreeNode_156 : decode cJ40_removeTreeNode 156 = .ok (.aload_n 0, 1) := dk_42 (dk_at dksJ40_removeTreeNode_6 14 rfl rfl)
theorem dJ40_removeTreeNode_157 : decode cJ40_removeTreeNode 157 = .ok (.astore 11, 2) := dk_58 11 (dk_at dksJ40_removeTreeNode_6 15 rfl rfl)
theorem dJ40_removeTreeNode_159 : decode cJ40_removeTreeNode 159 = .ok (.aload_n 0, 1) := dk_42 (dk_at dksJ40_removeTreeNode_6 17 rfl rfl)
theorem dJ40_removeTreeNode_160 : decode cJ40_removeTreeNode 160 = .ok (.getfield 39, 3) := dk_180 0 39 (dk_at dksJ40_removeTreeNode_6 18 rfl rfl)
theorem dJ40_removeTreeNode_163 : decode cJ40_removeTreeNode 163 = .ok (.astore 12, 2) := dk_58 12 (dk_at dksJ40_removeTreeNode_6 21 rfl rfl)
theorem dJ40_removeTreeNode_165 : decode cJ40_removeTreeNode 165 = .ok (.aload_n 0, 1) := dk_42 (dk_at dksJ40_removeTreeNode_6 23 rfl rfl)
theorem dJ40_removeTreeNode_166 : decode cJ40_removeTreeNode 166 = .ok (.getfield 42, 3) := dk_180 0 42 (dk_at dksJ40_removeTreeNode_7 0 rfl rfl)
theorem dJ40_removeTreeNode_169 : decode cJ40_removeTreeNode 169 = .ok (.astore 13, 2) := dk_58 13 (dk_at dksJ40_removeTreeNode_7 3 rfl rfl)
theorem dJ40_removeTreeNode_171 : decode cJ40_removeTreeNode 171 = .ok (.aload 12, 2) := dk_25 12 (dk_at dksJ40_removeTreeNode_7 5 rfl rfl)
theorem dJ40_removeTreeNode_173 : decode cJ40_removeTreeNode 173 = .ok (.ifnull 261, 3) := dk_198 1 5 (dk_at dksJ40_removeTreeNode_7 7 rfl rfl)
theorem dJ40_removeTreeNode_176 : decode cJ40_removeTreeNode 176 = .ok (.aload 13, 2) := dk_25 13 (dk_at dksJ40_removeTreeNode_7 10 rfl rfl)
theorem dJ40_removeTreeNode_178 : decode cJ40_removeTreeNode 178 = .ok (.ifnull 256, 3) := dk_198 1 0 (dk_at dksJ40_removeTreeNode_7 12 rfl rfl)
theorem dJ40_removeTreeNode_181 : decode cJ40_removeTreeNode 181 = .ok (.aload 13, 2) := dk_25 13 (dk_at dksJ40_removeTreeNode_7 15 rfl rfl)
theorem dJ40_removeTreeNode_183 : decode cJ40_removeTreeNode 183 = .ok (.astore 15, 2) := dk_58 15 (dk_at dksJ40_removeTreeNode_7 17 rfl rfl)
theorem dJ40_removeTreeNode_185 : decode cJ40_removeTreeNode 185 = .ok (.aload 15, 2) := dk_25 15 (dk_at dksJ40_removeTreeNode_7 19 rfl rfl)
theorem dJ40_removeTreeNode_187 : decode cJ40_removeTreeNode 187 = .ok (.getfield 39, 3) := dk_180 0 39 (dk_at dksJ40_removeTreeNode_7 21 rfl rfl)
theorem dJ40_removeTreeNode_190 : decode cJ40_removeTreeNode 190 = .ok (.dup, 1) := dk_89 (dk_at dksJ40_removeTreeNode_8 0 rfl rfl)
theorem dJ40_removeTreeNode_191 : decode cJ40_removeTreeNode 191 = .ok (.astore 16, 2) := dk_58 16 (dk_at dksJ40_removeTreeNode_8 1 rfl rfl)
theorem dJ40_removeTreeNode_193 : decode cJ40_removeTreeNode 193 = .ok (.ifnull 10, 3) := dk_198 0 10 (dk_at dksJ40_removeTreeNode_8 3 rfl rfl)
theorem dJ40_removeTreeNode_196 : decode cJ40_removeTreeNode 196 = .ok (.aload 16, 2) := dk_25 16 (dk_at dksJ40_removeTreeNode_8 6 rfl rfl)
theorem dJ40_removeTreeNode_198 : decode cJ40_removeTreeNode 198 = .ok (.astore 15, 2) := dk_58 15 (dk_at dksJ40_removeTreeNode_8 8 rfl rfl)
theorem dJ40_removeTreeNode_200 : decode cJ40_removeTreeNode 200 = .ok (.goto (-15), 3) := dk_167 255 241 (dk_at dksJ40_removeTreeNode_8 10 rfl rfl)
theorem dJ40_removeTreeNode_203 : decode cJ40_removeTreeNode 203 = .ok (.aload 15, 2) := dk_25 15 (dk_at dksJ40_removeTreeNode_8 13 rfl rfl)
theorem dJ40_removeTreeNode_205 : decode cJ40_removeTreeNode 205 = .ok (.getfield 93, 3) := dk_180 0 93 (dk_at dksJ40_removeTreeNode_8 15 rfl rfl)
theorem dJ40_removeTreeNode_208 : decode cJ40_removeTreeNode 208 = .ok (.istore 17, 2) := dk_54 17 (dk_at dksJ40_removeTreeNode_8 18 rfl rfl)
theorem dJ40_removeTreeNode_210 : decode cJ40_removeTreeNode 210 = .ok (.aload 15, 2) := dk_25 15 (dk_at dksJ40_removeTreeNode_8 20 rfl rfl)
theorem dJ40_removeTreeNode_212 : decode cJ40_removeTreeNode 212 = .ok (.aload 11, 2) := dk_25 11 (dk_at dksJ40_removeTreeNode_8 22 rfl rfl)
theorem dJ40_removeTreeNode_214 : decode cJ40_removeTreeNode 214 = .ok (.getfield 93, 3) := dk_180 0 93 (dk_at dksJ40_removeTreeNode_9 0 rfl rfl)
theorem dJ40_removeTreeNode_217 : decode cJ40_removeTreeNode 217 = .ok (.putfield 93, 3) := dk_181 0 93 (dk_at dksJ40_removeTreeNode_9 3 rfl rfl)
theorem dJ40_removeTreeNode_220 : decode cJ40_removeTreeNode 220 = .ok (.aload 11, 2) := dk_25 11 (dk_at dksJ40_removeTreeNode_9 6 rfl rfl)
theorem dJ40_removeTreeNode_222 : decode cJ40_removeTreeNode 222 = .ok (.iload 17, 2) := dk_21 17 (dk_at dksJ40_removeTreeNode_9 8 rfl rfl)
theorem dJ40_removeTreeNode_224 : decode cJ40_removeTreeNode 224 = .ok (.putfield 93, 3) := dk_181 0 93 (dk_at dksJ40_removeTreeNode_9 10 rfl rfl)
theorem dJ40_removeTreeNode_227 : decode cJ40_removeTreeNode 227 = .ok (.aload 15, 2) := dk_25 15 (dk_at dksJ40_removeTreeNode_9 13 rfl rfl)
theorem dJ40_removeTreeNode_229 : decode cJ40_removeTreeNode 229 = .ok (.getfield 42, 3) := dk_180 0 42 (dk_at dksJ40_removeTreeNode_9 15 rfl rfl)
theorem dJ40_removeTreeNode_232 : decode cJ40_removeTreeNode 232 = .ok (.astore 18, 2) := dk_58 18 (dk_at dksJ40_removeTreeNode_9 18 rfl rfl)
theorem dJ40_removeTreeNode_234 : decode cJ40_removeTreeNode 234 = .ok (.aload 11, 2) := dk_25 11 (dk_at dksJ40_removeTreeNode_9 20 rfl rfl)
theorem dJ40_removeTreeNode_236 : decode cJ40_removeTreeNode 236 = .ok (.getfield 9, 3) := dk_180 0 9 (dk_at dksJ40_removeTreeNode_10 0 rfl rfl)
theorem dJ40_removeTreeNode_239 : decode cJ40_removeTreeNode 239 = .ok (.astore 19, 2) := dk_58 19 (dk_at dksJ40_removeTreeNode_10 3 rfl rfl)
theorem dJ40_removeTreeNode_241 : decode cJ40_removeTreeNode 241 = .ok (.aload 15, 2) := dk_25 15 (dk_at dksJ40_removeTreeNode_10 5 rfl rfl)
theorem dJ40_removeTreeNode_243 : decode cJ40_removeTreeNode 243 = .ok (.aload 13, 2) := dk_25 13 (dk_at dksJ40_removeTreeNode_10 7 rfl rfl)
theorem dJ40_removeTreeNode_245 : decode cJ40_removeTreeNode 245 = .ok (.if_acmp .ne 20, 3) := dk_166 0 20 (dk_at dksJ40_removeTreeNode_10 9 rfl rfl)
theorem dJ40_removeTreeNode_248 : decode cJ40_removeTreeNode 248 = .ok (.aload 11, 2) := dk_25 11 (dk_at dksJ40_removeTreeNode_10 12 rfl rfl)
theorem dJ40_removeTreeNode_250 : decode cJ40_removeTreeNode 250 = .ok (.aload 15, 2) := dk_25 15 (dk_at dksJ40_removeTreeNode_10 14 rfl rfl)
theorem dJ40_removeTreeNode_252 : decode cJ40_removeTreeNode 252 = .ok (.putfield 9, 3) := dk_181 0 9 (dk_at dksJ40_removeTreeNode_10 16 rfl rfl)
theorem dJ40_removeTreeNode_255 : decode cJ40_removeTreeNode 255 = .ok (.aload 15, 2) := dk_25 15 (dk_at dksJ40_removeTreeNode_10 19 rfl rfl)
theorem dJ40_removeTreeNode_257 : decode cJ40_removeTreeNode 257 = .ok (.aload 11, 2) := dk_25 11 (dk_at dksJ40_removeTreeNode_10 21 rfl rfl)
theorem dJ40_removeTreeNode_259 : decode cJ40_removeTreeNode 259 = .ok (.putfield 42, 3) := dk_181 0 42 (dk_at dksJ40_removeTreeNode_11 0 rfl rfl)
theorem dJ40_removeTreeNode_262 : decode cJ40_removeTreeNode 262 = .ok (.goto 66, 3) := dk_167 0 66 (dk_at dksJ40_removeTreeNode_11 3 rfl rfl)
theorem dJ40_removeTreeNode_265 : decode cJ40_removeTreeNode 265 = .ok (.aload 15, 2) := dk_25 15 (dk_at dksJ40_removeTreeNode_11 6 rfl rfl)
theorem dJ40_removeTreeNode_267 : decode cJ40_removeTreeNode 267 = .ok (.getfield 9, 3) := dk_180 0 9 (dk_at dksJ40_removeTreeNode_11 8 rfl rfl)
theorem dJ40_removeTreeNode_270 : decode cJ40_removeTreeNode 270 = .ok (.astore 20, 2) := dk_58 20 (dk_at dksJ40_removeTreeNode_11 11 rfl rfl)
theorem dJ40_removeTreeNode_272 : decode cJ40_removeTreeNode 272 = .ok (.aload 11, 2) := dk_25 11 (dk_at dksJ40_removeTreeNode_11 13 rfl rfl)
theorem dJ40_removeTreeNode_274 : decode cJ40_removeTreeNode 274 = .ok (.aload 20, 2) := dk_25 20 (dk_at dksJ40_removeTreeNode_11 15 rfl rfl)
theorem dJ40_removeTreeNode_276 : decode cJ40_removeTreeNode 276 = .ok (.dup_x1, 1) := dk_90 (dk_at dksJ40_removeTreeNode_11 17 rfl rfl)
theorem dJ40_removeTreeNode_277 : decode cJ40_removeTreeNode 277 = .ok (.putfield 9, 3) := dk_181 0 9 (dk_at dksJ40_removeTreeNode_11 18 rfl rfl)
theorem dJ40_removeTreeNode_280 : decode cJ40_removeTreeNode 280 = .ok (.ifnull 30, 3) := dk_198 0 30 (dk_at dksJ40_removeTreeNode_11 21 rfl rfl)
theorem dJ40_removeTreeNode_283 : decode cJ40_removeTreeNode 283 = .ok (.aload 15, 2) := dk_25 15 (dk_at dksJ40_removeTreeNode_12 0 rfl rfl)
theorem dJ40_removeTreeNode_285 : decode cJ40_removeTreeNode 285 = .ok (.aload 20, 2) := dk_25 20 (dk_at dksJ40_removeTreeNode_12 2 rfl rfl)
theorem dJ40_removeTreeNode_287 : decode cJ40_removeTreeNode 287 = .ok (.getfield 39, 3) := dk_180 0 39 (dk_at dksJ40_removeTreeNode_12 4 rfl rfl)
theorem dJ40_removeTreeNode_290 : decode cJ40_removeTreeNode 290 = .ok (.if_acmp .ne 13, 3) := dk_166 0 13 (dk_at dksJ40_removeTreeNode_12 7 rfl rfl)
theorem dJ40_removeTreeNode_293 : decode cJ40_removeTreeNode 293 = .ok (.aload 20, 2) := dk_25 20 (dk_at dksJ40_removeTreeNode_12 10 rfl rfl)
theorem dJ40_removeTreeNode_295 : decode cJ40_removeTreeNode 295 = .ok (.aload 11, 2) := dk_25 11 (dk_at dksJ40_removeTreeNode_12 12 rfl rfl)
theorem dJ40_removeTreeNode_297 : decode cJ40_removeTreeNode 297 = .ok (.putfield 39, 3) := dk_181 0 39 (dk_at dksJ40_removeTreeNode_12 14 rfl rfl)
theorem dJ40_removeTreeNode_300 : decode cJ40_removeTreeNode 300 = .ok (.goto 10, 3) := dk_167 0 10 (dk_at dksJ40_removeTreeNode_12 17 rfl rfl)
theorem dJ40_removeTreeNode_303 : decode cJ40_removeTreeNode 303 = .ok (.aload 20, 2) := dk_25 20 (dk_at dksJ40_removeTreeNode_12 20 rfl rfl)
theorem dJ40_removeTreeNode_305 : decode cJ40_removeTreeNode 305 = .ok (.aload 11, 2) := dk_25 11 (dk_at dksJ40_removeTreeNode_12 22 rfl rfl)
theorem dJ40_removeTreeNode_307 : decode cJ40_removeTreeNode 307 = .ok (.putfield 42, 3) := dk_181 0 42 (dk_at dksJ40_removeTreeNode_13 0 rfl rfl)
theorem dJ40_removeTreeNode_310 : decode cJ40_removeTreeNode 310 = .ok (.aload 15, 2) := dk_25 15 (dk_at dksJ40_removeTreeNode_13 3 rfl rfl)
theorem dJ40_removeTreeNode_312 : decode cJ40_removeTreeNode 312 = .ok (.aload 13, 2) := dk_25 13 (dk_at dksJ40_removeTreeNode_13 5 rfl rfl)
theorem dJ40_removeTreeNode_314 : decode cJ40_removeTreeNode 314 = .ok (.dup_x1, 1) := dk_90 (dk_at dksJ40_removeTreeNode_13 7 rfl rfl)
theorem dJ40_removeTreeNode_315 : decode cJ40_removeTreeNode 315 = .ok (.putfield 42, 3) := dk_181 0 42 (dk_at dksJ40_removeTreeNode_13 8 rfl rfl)
theorem dJ40_removeTreeNode_318 : decode cJ40_removeTreeNode 318 = .ok (.ifnull 10, 3) := dk_198 0 10 (dk_at dksJ40_removeTreeNode_13 11 rfl rfl)
theorem dJ40_removeTreeNode_321 : decode cJ40_removeTreeNode 321 = .ok (.aload 13, 2) := dk_25 13 (dk_at dksJ40_removeTreeNode_13 14 rfl rfl)
theorem dJ40_removeTreeNode_323 : decode cJ40_removeTreeNode 323 = .ok (.aload 15, 2) := dk_25 15 (dk_at dksJ40_removeTreeNode_13 16 rfl rfl)
theorem dJ40_removeTreeNode_325 : decode cJ40_removeTreeNode 325 = .ok (.putfield 9, 3) := dk_181 0 9 (dk_at dksJ40_removeTreeNode_13 18 rfl rfl)
theorem dJ40_removeTreeNode_328 : decode cJ40_removeTreeNode 328 = .ok (.aload 11, 2) := dk_25 11 (dk_at dksJ40_removeTreeNode_13 21 rfl rfl)
theorem dJ40_removeTreeNode_330 : decode cJ40_removeTreeNode 330 = .ok (.aconst_null, 1) := dk_1 (dk_at dksJ40_removeTreeNode_13 23 rfl rfl)
theorem dJ40_removeTreeNode_331 : decode cJ40_removeTreeNode 331 = .ok (.putfield 39, 3) := dk_181 0 39 (dk_at dksJ40_removeTreeNode_14 0 rfl rfl)
theorem dJ40_removeTreeNode_334 : decode cJ40_removeTreeNode 334 = .ok (.aload 11, 2) := dk_25 11 (dk_at dksJ40_removeTreeNode_14 3 rfl rfl)
theorem dJ40_removeTreeNode_336 : decode cJ40_removeTreeNode 336 = .ok (.aload 18, 2) := dk_25 18 (dk_at dksJ40_removeTreeNode_14 5 rfl rfl)
theorem dJ40_removeTreeNode_338 : decode cJ40_removeTreeNode 338 = .ok (.dup_x1, 1) := dk_90 (dk_at dksJ40_removeTreeNode_14 7 rfl rfl)
theorem dJ40_removeTreeNode_339 : decode cJ40_removeTreeNode 339 = .ok (.putfield 42, 3) := dk_181 0 42 (dk_at dksJ40_removeTreeNode_14 8 rfl rfl)
theorem dJ40_removeTreeNode_342 : decode cJ40_removeTreeNode 342 = .ok (.ifnull 10, 3) := dk_198 0 10 (dk_at dksJ40_removeTreeNode_14 11 rfl rfl)
theorem dJ40_removeTreeNode_345 : decode cJ40_removeTreeNode 345 = .ok (.aload 18, 2) := dk_25 18 (dk_at dksJ40_removeTreeNode_14 14 rfl rfl)
theorem dJ40_removeTreeNode_347 : decode cJ40_removeTreeNode 347 = .ok (.aload 11, 2) := dk_25 11 (dk_at dksJ40_removeTreeNode_14 16 rfl rfl)
theorem dJ40_removeTreeNode_349 : decode cJ40_removeTreeNode 349 = .ok (.putfield 9, 3) := dk_181 0 9 (dk_at dksJ40_removeTreeNode_14 18 rfl rfl)
theorem dJ40_removeTreeNode_352 : decode cJ40_removeTreeNode 352 = .ok (.aload 15, 2) := dk_25 15 (dk_at dksJ40_removeTreeNode_14 21 rfl rfl)
theorem dJ40_removeTreeNode_354 : decode cJ40_removeTreeNode 354 = .ok (.aload 12, 2) := dk_25 12 (dk_at dksJ40_removeTreeNode_15 0 rfl rfl)
theorem dJ40_removeTreeNode_356 : decode cJ40_removeTreeNode 356 = .ok (.dup_x1, 1) := dk_90 (dk_at dksJ40_removeTreeNode_15 2 rfl rfl)
theorem dJ40_removeTreeNode_357 : decode cJ40_removeTreeNode 357 = .ok (.putfield 39, 3) := dk_181 0 39 (dk_at dksJ40_removeTreeNode_15 3 rfl rfl)
theorem dJ40_removeTreeNode_360 : decode cJ40_removeTreeNode 360 = .ok (.ifnull 10, 3) := dk_198 0 10 (dk_at dksJ40_removeTreeNode_15 6 rfl rfl)
theorem dJ40_removeTreeNode_363 : decode cJ40_removeTreeNode 363 = .ok (.aload 12, 2) := dk_25 12 (dk_at dksJ40_removeTreeNode_15 9 rfl rfl)
theorem dJ40_removeTreeNode_365 : decode cJ40_removeTreeNode 365 = .ok (.aload 15, 2) := dk_25 15 (dk_at dksJ40_removeTreeNode_15 11 rfl rfl)
theorem dJ40_removeTreeNode_367 : decode cJ40_removeTreeNode 367 = .ok (.putfield 9, 3) := dk_181 0 9 (dk_at dksJ40_removeTreeNode_15 13 rfl rfl)
theorem dJ40_removeTreeNode_370 : decode cJ40_removeTreeNode 370 = .ok (.aload 15, 2) := dk_25 15 (dk_at dksJ40_removeTreeNode_15 16 rfl rfl)
theorem dJ40_removeTreeNode_372 : decode cJ40_removeTreeNode 372 = .ok (.aload 19, 2) := dk_25 19 (dk_at dksJ40_removeTreeNode_15 18 rfl rfl)
theorem dJ40_removeTreeNode_374 : decode cJ40_removeTreeNode 374 = .ok (.dup_x1, 1) := dk_90 (dk_at dksJ40_removeTreeNode_15 20 rfl rfl)
theorem dJ40_removeTreeNode_375 : decode cJ40_removeTreeNode 375 = .ok (.putfield 9, 3) := dk_181 0 9 (dk_at dksJ40_removeTreeNode_15 21 rfl rfl)
theorem dJ40_removeTreeNode_378 : decode cJ40_removeTreeNode 378 = .ok (.ifnonnull 10, 3) := dk_199 0 10 (dk_at dksJ40_removeTreeNode_16 0 rfl rfl)
theorem dJ40_removeTreeNode_381 : decode cJ40_removeTreeNode 381 = .ok (.aload 15, 2) := dk_25 15 (dk_at dksJ40_removeTreeNode_16 3 rfl rfl)
theorem dJ40_removeTreeNode_383 : decode cJ40_removeTreeNode 383 = .ok (.astore 7, 2) := dk_58 7 (dk_at dksJ40_removeTreeNode_16 5 rfl rfl)
theorem dJ40_removeTreeNode_385 : decode cJ40_removeTreeNode 385 = .ok (.goto 30, 3) := dk_167 0 30 (dk_at dksJ40_removeTreeNode_16 7 rfl rfl)
theorem dJ40_removeTreeNode_388 : decode cJ40_removeTreeNode 388 = .ok (.aload 11, 2) := dk_25 11 (dk_at dksJ40_removeTreeNode_16 10 rfl rfl)
theorem dJ40_removeTreeNode_390 : decode cJ40_removeTreeNode 390 = .ok (.aload 19, 2) := dk_25 19 (dk_at dksJ40_removeTreeNode_16 12 rfl rfl)
theorem dJ40_removeTreeNode_392 : decode cJ40_removeTreeNode 392 = .ok (.getfield 39, 3) := dk_180 0 39 (dk_at dksJ40_removeTreeNode_16 14 rfl rfl)
theorem dJ40_removeTreeNode_395 : decode cJ40_removeTreeNode 395 = .ok (.if_acmp .ne 13, 3) := dk_166 0 13 (dk_at dksJ40_removeTreeNode_16 17 rfl rfl)
theorem dJ40_removeTreeNode_398 : decode cJ40_removeTreeNode 398 = .ok (.aload 19, 2) := dk_25 19 (dk_at dksJ40_removeTreeNode_16 20 rfl rfl)
theorem dJ40_removeTreeNode_400 : decode cJ40_removeTreeNode 400 = .ok (.aload 15, 2) := dk_25 15 (dk_at dksJ40_removeTreeNode_16 22 rfl rfl)
theorem dJ40_removeTreeNode_402 : decode cJ40_removeTreeNode 402 = .ok (.putfield 39, 3) := dk_181 0 39 (dk_at dksJ40_removeTreeNode_17 0 rfl rfl)
theorem dJ40_removeTreeNode_405 : decode cJ40_removeTreeNode 405 = .ok (.goto 10, 3) := dk_167 0 10 (dk_at dksJ40_removeTreeNode_17 3 rfl rfl)
theorem dJ40_removeTreeNode_408 : decode cJ40_removeTreeNode 408 = .ok (.aload 19, 2) := dk_25 19 (dk_at dksJ40_removeTreeNode_17 6 rfl rfl)
theorem dJ40_removeTreeNode_410 : decode cJ40_removeTreeNode 410 = .ok (.aload 15, 2) := dk_25 15 (dk_at dksJ40_removeTreeNode_17 8 rfl rfl)
theorem dJ40_removeTreeNode_412 : decode cJ40_removeTreeNode 412 = .ok (.putfield 42, 3) := dk_181 0 42 (dk_at dksJ40_removeTreeNode_17 10 rfl rfl)
theorem dJ40_removeTreeNode_415 : decode cJ40_removeTreeNode 415 = .ok (.aload 18, 2) := dk_25 18 (dk_at dksJ40_removeTreeNode_17 13 rfl rfl)
theorem dJ40_removeTreeNode_417 : decode cJ40_removeTreeNode 417 = .ok (.ifnull 10, 3) := dk_198 0 10 (dk_at dksJ40_removeTreeNode_17 15 rfl rfl)
theorem dJ40_removeTreeNode_420 : decode cJ40_removeTreeNode 420 = .ok (.aload 18, 2) := dk_25 18 (dk_at dksJ40_removeTreeNode_17 18 rfl rfl)
theorem dJ40_removeTreeNode_422 : decode cJ40_removeTreeNode 422 = .ok (.astore 14, 2) := dk_58 14 (dk_at dksJ40_removeTreeNode_17 20 rfl rfl)
theorem dJ40_removeTreeNode_424 : decode cJ40_removeTreeNode 424 = .ok (.goto 7, 3) := dk_167 0 7 (dk_at dksJ40_removeTreeNode_18 0 rfl rfl)
theorem dJ40_removeTreeNode_427 : decode cJ40_removeTreeNode 427 = .ok (.aload 11, 2) := dk_25 11 (dk_at dksJ40_removeTreeNode_18 3 rfl rfl)
theorem dJ40_removeTreeNode_429 : decode cJ40_removeTreeNode 429 = .ok (.astore 14, 2) := dk_58 14 (dk_at dksJ40_removeTreeNode_18 5 rfl rfl)
theorem dJ40_removeTreeNode_431 : decode cJ40_removeTreeNode 431 = .ok (.goto 31, 3) := dk_167 0 31 (dk_at dksJ40_removeTreeNode_18 7 rfl rfl)
theorem dJ40_removeTreeNode_434 : decode cJ40_removeTreeNode 434 = .ok (.aload 12, 2) := dk_25 12 (dk_at dksJ40_removeTreeNode_18 10 rfl rfl)
theorem dJ40_removeTreeNode_436 : decode cJ40_removeTreeNode 436 = .ok (.ifnull 10, 3) := dk_198 0 10 (dk_at dksJ40_removeTreeNode_18 12 rfl rfl)
theorem dJ40_removeTreeNode_439 : decode cJ40_removeTreeNode 439 = .ok (.aload 12, 2) := dk_25 12 (dk_at dksJ40_removeTreeNode_18 15 rfl rfl)
theorem dJ40_removeTreeNode_441 : decode cJ40_removeTreeNode 441 = .ok (.astore 14, 2) := dk_58 14 (dk_at dksJ40_removeTreeNode_18 17 rfl rfl)
theorem dJ40_removeTreeNode_443 : decode cJ40_removeTreeNode 443 = .ok (.goto 19, 3) := dk_167 0 19 (dk_at dksJ40_removeTreeNode_18 19 rfl rfl)
theorem dJ40_removeTreeNode_446 : decode cJ40_removeTreeNode 446 = .ok (.aload 13, 2) := dk_25 13 (dk_at dksJ40_removeTreeNode_18 22 rfl rfl)
theorem dJ40_removeTreeNode_448 : decode cJ40_removeTreeNode 448 = .ok (.ifnull 10, 3) := dk_198 0 10 (dk_at dksJ40_removeTreeNode_19 0 rfl rfl)
theorem dJ40_removeTreeNode_451 : decode cJ40_removeTreeNode 451 = .ok (.aload 13, 2) := dk_25 13 (dk_at dksJ40_removeTreeNode_19 3 rfl rfl)
theorem dJ40_removeTreeNode_453 : decode cJ40_removeTreeNode 453 = .ok (.astore 14, 2) := dk_58 14 (dk_at dksJ40_removeTreeNode_19 5 rfl rfl)
theorem dJ40_removeTreeNode_455 : decode cJ40_removeTreeNode 455 = .ok (.goto 7, 3) := dk_167 0 7 (dk_at dksJ40_removeTreeNode_19 7 rfl rfl)
theorem dJ40_removeTreeNode_458 : decode cJ40_removeTreeNode 458 = .ok (.aload 11, 2) := dk_25 11 (dk_at dksJ40_removeTreeNode_19 10 rfl rfl)
theorem dJ40_removeTreeNode_460 : decode cJ40_removeTreeNode 460 = .ok (.astore 14, 2) := dk_58 14 (dk_at dksJ40_removeTreeNode_19 12 rfl rfl)
theorem dJ40_removeTreeNode_462 : decode cJ40_removeTreeNode 462 = .ok (.aload 14, 2) := dk_25 14 (dk_at dksJ40_removeTreeNode_19 14 rfl rfl)
theorem dJ40_removeTreeNode_464 : decode cJ40_removeTreeNode 464 = .ok (.aload 11, 2) := dk_25 11 (dk_at dksJ40_removeTreeNode_19 16 rfl rfl)
theorem dJ40_removeTreeNode_466 : decode cJ40_removeTreeNode 466 = .ok (.if_acmp .eq 78, 3) := dk_165 0 78 (dk_at dksJ40_removeTreeNode_19 18 rfl rfl)
theorem dJ40_removeTreeNode_469 : decode cJ40_removeTreeNode 469 = .ok (.aload 14, 2) := dk_25 14 (dk_at dksJ40_removeTreeNode_19 21 rfl rfl)
theorem dJ40_removeTreeNode_471 : decode cJ40_removeTreeNode 471 = .ok (.aload 11, 2) := dk_25 11 (dk_at dksJ40_removeTreeNode_20 0 rfl rfl)
theorem dJ40_removeTreeNode_473 : decode cJ40_removeTreeNode 473 = .ok (.getfield 9, 3) := dk_180 0 9 (dk_at dksJ40_removeTreeNode_20 2 rfl rfl)
theorem dJ40_removeTreeNode_476 : decode cJ40_removeTreeNode 476 = .ok (.dup_x1, 1) := dk_90 (dk_at dksJ40_removeTreeNode_20 5 rfl rfl)
theorem dJ40_removeTreeNode_477 : decode cJ40_removeTreeNode 477 = .ok (.putfield 9, 3) := dk_181 0 9 (dk_at dksJ40_removeTreeNode_20 6 rfl rfl)
theorem dJ40_removeTreeNode_480 : decode cJ40_removeTreeNode 480 = .ok (.astore 15, 2) := dk_58 15 (dk_at dksJ40_removeTreeNode_20 9 rfl rfl)
theorem dJ40_removeTreeNode_482 : decode cJ40_removeTreeNode 482 = .ok (.aload 15, 2) := dk_25 15 (dk_at dksJ40_removeTreeNode_20 11 rfl rfl)
theorem dJ40_removeTreeNode_484 : decode cJ40_removeTreeNode 484 = .ok (.ifnonnull 15, 3) := dk_199 0 15 (dk_at dksJ40_removeTreeNode_20 13 rfl rfl)
theorem dJ40_removeTreeNode_487 : decode cJ40_removeTreeNode 487 = .ok (.aload 14, 2) := dk_25 14 (dk_at dksJ40_removeTreeNode_20 16 rfl rfl)
theorem dJ40_removeTreeNode_489 : decode cJ40_removeTreeNode 489 = .ok (.dup, 1) := dk_89 (dk_at dksJ40_removeTreeNode_20 18 rfl rfl)
theorem dJ40_removeTreeNode_490 : decode cJ40_removeTreeNode 490 = .ok (.astore 7, 2) := dk_58 7 (dk_at dksJ40_removeTreeNode_20 19 rfl rfl)
theorem dJ40_removeTreeNode_492 : decode cJ40_removeTreeNode 492 = .ok (.iconst 0, 1) := dk_3 (dk_at dksJ40_removeTreeNode_20 21 rfl rfl)
theorem dJ40_removeTreeNode_493 : decode cJ40_removeTreeNode 493 = .ok (.putfield 93, 3) := dk_181 0 93 (dk_at dksJ40_removeTreeNode_21 0 rfl rfl)
theorem dJ40_removeTreeNode_496 : decode cJ40_removeTreeNode 496 = .ok (.goto 30, 3) := dk_167 0 30 (dk_at dksJ40_removeTreeNode_21 3 rfl rfl)
theorem dJ40_removeTreeNode_499 : decode cJ40_removeTreeNode 499 = .ok (.aload 11, 2) := dk_25 11 (dk_at dksJ40_removeTreeNode_21 6 rfl rfl)
theorem dJ40_removeTreeNode_501 : decode cJ40_removeTreeNode 501 = .ok (.aload 15, 2) := dk_25 15 (dk_at dksJ40_removeTreeNode_21 8 rfl rfl)
theorem dJ40_removeTreeNode_503 : decode cJ40_removeTreeNode 503 = .ok (.getfield 39, 3) := dk_180 0 39 (dk_at dksJ40_removeTreeNode_21 10 rfl rfl)
theorem dJ40_removeTreeNode_506 : decode cJ40_removeTreeNode 506 = .ok (.if_acmp .ne 13, 3) := dk_166 0 13 (dk_at dksJ40_removeTreeNode_21 13 rfl rfl)
theorem dJ40_removeTreeNode_509 : decode cJ40_removeTreeNode 509 = .ok (.aload 15, 2) := dk_25 15 (dk_at dksJ40_removeTreeNode_21 16 rfl rfl)
theorem dJ40_removeTreeNode_511 : decode cJ40_removeTreeNode 511 = .ok (.aload 14, 2) := dk_25 14 (dk_at dksJ40_removeTreeNode_21 18 rfl rfl)
theorem dJ40_removeTreeNode_513 : decode cJ40_removeTreeNode 513 = .ok (.putfield 39, 3) := dk_181 0 39 (dk_at dksJ40_removeTreeNode_21 20 rfl rfl)
theorem dJ40_removeTreeNode_516 : decode cJ40_removeTreeNode 516 = .ok (.goto 10, 3) := dk_167 0 10 (dk_at dksJ40_removeTreeNode_22 0 rfl rfl)
theorem dJ40_removeTreeNode_519 : decode cJ40_removeTreeNode 519 = .ok (.aload 15, 2) := dk_25 15 (dk_at dksJ40_removeTreeNode_22 3 rfl rfl)
theorem dJ40_removeTreeNode_521 : decode cJ40_removeTreeNode 521 = .ok (.aload 14, 2) := dk_25 14 (dk_at dksJ40_removeTreeNode_22 5 rfl rfl)
theorem dJ40_removeTreeNode_523 : decode cJ40_removeTreeNode 523 = .ok (.putfield 42, 3) := dk_181 0 42 (dk_at dksJ40_removeTreeNode_22 7 rfl rfl)
theorem dJ40_removeTreeNode_526 : decode cJ40_removeTreeNode 526 = .ok (.aload 11, 2) := dk_25 11 (dk_at dksJ40_removeTreeNode_22 10 rfl rfl)
theorem dJ40_removeTreeNode_528 : decode cJ40_removeTreeNode 528 = .ok (.aload 11, 2) := dk_25 11 (dk_at dksJ40_removeTreeNode_22 12 rfl rfl)
theorem dJ40_removeTreeNode_530 : decode cJ40_removeTreeNode 530 = .ok (.aload 11, 2) := dk_25 11 (dk_at dksJ40_removeTreeNode_22 14 rfl rfl)
theorem dJ40_removeTreeNode_532 : decode cJ40_removeTreeNode 532 = .ok (.aconst_null, 1) := dk_1 (dk_at dksJ40_removeTreeNode_22 16 rfl rfl)
theorem dJ40_removeTreeNode_533 : decode cJ40_removeTreeNode 533 = .ok (.dup_x1, 1) := dk_90 (dk_at dksJ40_removeTreeNode_22 17 rfl rfl)
theorem dJ40_removeTreeNode_534 : decode cJ40_removeTreeNode 534 = .ok (.putfield 9, 3) := dk_181 0 9 (dk_at dksJ40_removeTreeNode_22 18 rfl rfl)
theorem dJ40_removeTreeNode_537 : decode cJ40_removeTreeNode 537 = .ok (.dup_x1, 1) := dk_90 (dk_at dksJ40_removeTreeNode_22 21 rfl rfl)
theorem dJ40_removeTreeNode_538 : decode cJ40_removeTreeNode 538 = .ok (.putfield 42, 3) := dk_181 0 42 (dk_at dksJ40_removeTreeNode_23 0 rfl rfl)
theorem dJ40_removeTreeNode_541 : decode cJ40_removeTreeNode 541 = .ok (.putfield 39, 3) := dk_181 0 39 (dk_at dksJ40_removeTreeNode_23 3 rfl rfl)
theorem dJ40_removeTreeNode_544 : decode cJ40_removeTreeNode 544 = .ok (.aload 11, 2) := dk_25 11 (dk_at dksJ40_removeTreeNode_23 6 rfl rfl)
theorem dJ40_removeTreeNode_546 : decode cJ40_removeTreeNode 546 = .ok (.getfield 93, 3) := dk_180 0 93 (dk_at dksJ40_removeTreeNode_23 8 rfl rfl)
theorem dJ40_removeTreeNode_549 : decode cJ40_removeTreeNode 549 = .ok (.ifCond .eq 8, 3) := dk_153 0 8 (dk_at dksJ40_removeTreeNode_23 11 rfl rfl)
theorem dJ40_removeTreeNode_552 : decode cJ40_removeTreeNode 552 = .ok (.aload 7, 2) := dk_25 7 (dk_at dksJ40_removeTreeNode_23 14 rfl rfl)
theorem dJ40_removeTreeNode_554 : decode cJ40_removeTreeNode 554 = .ok (.goto 10, 3) := dk_167 0 10 (dk_at dksJ40_removeTreeNode_23 16 rfl rfl)
theorem dJ40_removeTreeNode_557 : decode cJ40_removeTreeNode 557 = .ok (.aload 7, 2) := dk_25 7 (dk_at dksJ40_removeTreeNode_23 19 rfl rfl)
theorem dJ40_removeTreeNode_559 : decode cJ40_removeTreeNode 559 = .ok (.aload 14, 2) := dk_25 14 (dk_at dksJ40_removeTreeNode_23 21 rfl rfl)
theorem dJ40_removeTreeNode_561 : decode cJ40_removeTreeNode 561 = .ok (.invokestatic 123, 3) := dk_184 0 123 (dk_at dksJ40_removeTreeNode_24 0 rfl rfl)
theorem dJ40_removeTreeNode_564 : decode cJ40_removeTreeNode 564 = .ok (.astore 15, 2) := dk_58 15 (dk_at dksJ40_removeTreeNode_24 3 rfl rfl)
theorem dJ40_removeTreeNode_566 : decode cJ40_removeTreeNode 566 = .ok (.aload 14, 2) := dk_25 14 (dk_at dksJ40_removeTreeNode_24 5 rfl rfl)
theorem dJ40_removeTreeNode_568 : decode cJ40_removeTreeNode 568 = .ok (.aload 11, 2) := dk_25 11 (dk_at dksJ40_removeTreeNode_24 7 rfl rfl)
theorem dJ40_removeTreeNode_570 : decode cJ40_removeTreeNode 570 = .ok (.if_acmp .ne 56, 3) := dk_166 0 56 (dk_at dksJ40_removeTreeNode_24 9 rfl rfl)
theorem dJ40_removeTreeNode_573 : decode cJ40_removeTreeNode 573 = .ok (.aload 11, 2) := dk_25 11 (dk_at dksJ40_removeTreeNode_24 12 rfl rfl)
theorem dJ40_removeTreeNode_575 : decode cJ40_removeTreeNode 575 = .ok (.getfield 9, 3) := dk_180 0 9 (dk_at dksJ40_removeTreeNode_24 14 rfl rfl)
theorem dJ40_removeTreeNode_578 : decode cJ40_removeTreeNode 578 = .ok (.astore 16, 2) := dk_58 16 (dk_at dksJ40_removeTreeNode_24 17 rfl rfl)
theorem dJ40_removeTreeNode_580 : decode cJ40_removeTreeNode 580 = .ok (.aload 11, 2) := dk_25 11 (dk_at dksJ40_removeTreeNode_24 19 rfl rfl)
theorem dJ40_removeTreeNode_582 : decode cJ40_removeTreeNode 582 = .ok (.aconst_null, 1) := dk_1 (dk_at dksJ40_removeTreeNode_24 21 rfl rfl)
theorem dJ40_removeTreeNode_583 : decode cJ40_removeTreeNode 583 = .ok (.putfield 9, 3) := dk_181 0 9 (dk_at dksJ40_removeTreeNode_25 0 rfl rfl)
theorem dJ40_removeTreeNode_586 : decode cJ40_removeTreeNode 586 = .ok (.aload 16, 2) := dk_25 16 (dk_at dksJ40_removeTreeNode_25 3 rfl rfl)
theorem dJ40_removeTreeNode_588 : decode cJ40_removeTreeNode 588 = .ok (.ifnull 38, 3) := dk_198 0 38 (dk_at dksJ40_removeTreeNode_25 5 rfl rfl)
theorem dJ40_removeTreeNode_591 : decode cJ40_removeTreeNode 591 = .ok (.aload 11, 2) := dk_25 11 (dk_at dksJ40_removeTreeNode_25 8 rfl rfl)
theorem dJ40_removeTreeNode_593 : decode cJ40_removeTreeNode 593 = .ok (.aload 16, 2) := dk_25 16 (dk_at dksJ40_removeTreeNode_25 10 rfl rfl)
theorem dJ40_removeTreeNode_595 : decode cJ40_removeTreeNode 595 = .ok (.getfield 39, 3) := dk_180 0 39 (dk_at dksJ40_removeTreeNode_25 12 rfl rfl)
theorem dJ40_removeTreeNode_598 : decode cJ40_removeTreeNode 598 = .ok (.if_acmp .ne 12, 3) := dk_166 0 12 (dk_at dksJ40_removeTreeNode_25 15 rfl rfl)
theorem dJ40_removeTreeNode_601 : decode cJ40_removeTreeNode 601 = .ok (.aload 16, 2) := dk_25 16 (dk_at dksJ40_removeTreeNode_25 18 rfl rfl)
theorem dJ40_removeTreeNode_603 : decode cJ40_removeTreeNode 603 = .ok (.aconst_null, 1) := dk_1 (dk_at dksJ40_removeTreeNode_25 20 rfl rfl)
theorem dJ40_removeTreeNode_604 : decode cJ40_removeTreeNode 604 = .ok (.putfield 39, 3) := dk_181 0 39 (dk_at dksJ40_removeTreeNode_25 21 rfl rfl)
theorem dJ40_removeTreeNode_607 : decode cJ40_removeTreeNode 607 = .ok (.goto 19, 3) := dk_167 0 19 (dk_at dksJ40_removeTreeNode_26 0 rfl rfl)
theorem dJ40_removeTreeNode_610 : decode cJ40_removeTreeNode 610 = .ok (.aload 11, 2) := dk_25 11 (dk_at dksJ40_removeTreeNode_26 3 rfl rfl)
theorem dJ40_removeTreeNode_612 : decode cJ40_removeTreeNode 612 = .ok (.aload 16, 2) := dk_25 16 (dk_at dksJ40_removeTreeNode_26 5 rfl rfl)
theorem dJ40_removeTreeNode_614 : decode cJ40_removeTreeNode 614 = .ok (.getfield 42, 3) := dk_180 0 42 (dk_at dksJ40_removeTreeNode_26 7 rfl rfl)
theorem dJ40_removeTreeNode_617 : decode cJ40_removeTreeNode 617 = .ok (.if_acmp .ne 9, 3) := dk_166 0 9 (dk_at dksJ40_removeTreeNode_26 10 rfl rfl)
theorem dJ40_removeTreeNode_620 : decode cJ40_removeTreeNode 620 = .ok (.aload 16, 2) := dk_25 16 (dk_at dksJ40_removeTreeNode_26 13 rfl rfl)
theorem dJ40_removeTreeNode_622 : decode cJ40_removeTreeNode 622 = .ok (.aconst_null, 1) := dk_1 (dk_at dksJ40_removeTreeNode_26 15 rfl rfl)
theorem dJ40_removeTreeNode_623 : decode cJ40_removeTreeNode 623 = .ok (.putfield 42, 3) := dk_181 0 42 (dk_at dksJ40_removeTreeNode_26 16 rfl rfl)
theorem dJ40_removeTreeNode_626 : decode cJ40_removeTreeNode 626 = .ok (.iload_n 3, 1) := dk_29 (dk_at dksJ40_removeTreeNode_26 19 rfl rfl)
theorem dJ40_removeTreeNode_627 : decode cJ40_removeTreeNode 627 = .ok (.ifCond .eq 9, 3) := dk_153 0 9 (dk_at dksJ40_removeTreeNode_26 20 rfl rfl)
theorem dJ40_removeTreeNode_630 : decode cJ40_removeTreeNode 630 = .ok (.aload_n 2, 1) := dk_44 (dk_at dksJ40_removeTreeNode_26 23 rfl rfl)
theorem dJ40_removeTreeNode_631 : decode cJ40_removeTreeNode 631 = .ok (.aload 15, 2) := dk_25 15 (dk_at dksJ40_removeTreeNode_27 0 rfl rfl)
theorem dJ40_removeTreeNode_633 : decode cJ40_removeTreeNode 633 = .ok (.invokestatic 104, 3) := dk_184 0 104 (dk_at dksJ40_removeTreeNode_27 2 rfl rfl)
theorem dJ40_removeTreeNode_636 : decode cJ40_removeTreeNode 636 = .ok (.return_, 1) := dk_177 (dk_at dksJ40_removeTreeNode_27 5 rfl rfl)
abbrev cJ40_balanceDeletion : ByteArray := prog_70_method_15_code
def yJ40_balanceDeletion : MethodName := ⟨RJ40, "balanceDeletion", "(Ljava/util/HashMap$TreeNode;Ljava/util/HashMap$TreeNode;)Ljava/util/HashMap$TreeNode;"⟩
def dkwJ40_balanceDeletion_21 : List UInt8 := [167, 254, 23]
abbrev dktJ40_balanceDeletion_21 : List UInt8 := dkwJ40_balanceDeletion_21 ++ []
def dkwJ40_balanceDeletion_20 : List UInt8 := [25, 5, 3, 181, 0, 93, 44, 198, 0, 14, 44, 3, 181, 0, 93, 42, 44, 184, 0, 133, 75, 42, 76]
abbrev dktJ40_balanceDeletion_20 : List UInt8 := dkwJ40_balanceDeletion_20 ++ dktJ40_balanceDeletion_21
def dkwJ40_balanceDeletion_19 : List UInt8 := [199, 0, 7, 3, 167, 0, 7, 44, 180, 0, 93, 181, 0, 93, 45, 180, 0, 39, 89, 58, 5, 198, 0, 9]
abbrev dktJ40_balanceDeletion_19 : List UInt8 := dkwJ40_balanceDeletion_19 ++ dktJ40_balanceDeletion_20
def dkwJ40_balanceDeletion_18 : List UInt8 := [180, 0, 9, 89, 77, 199, 0, 7, 1, 167, 0, 7, 44, 180, 0, 39, 78, 45, 198, 0, 35, 45, 44]
abbrev dktJ40_balanceDeletion_18 : List UInt8 := dkwJ40_balanceDeletion_18 ++ dktJ40_balanceDeletion_19
def dkwJ40_balanceDeletion_17 : List UInt8 := [25, 6, 198, 0, 9, 25, 6, 3, 181, 0, 93, 45, 4, 181, 0, 93, 42, 45, 184, 0, 130, 75, 43]
abbrev dktJ40_balanceDeletion_17 : List UInt8 := dkwJ40_balanceDeletion_17 ++ dktJ40_balanceDeletion_18
def dkwJ40_balanceDeletion_16 : List UInt8 := [45, 4, 181, 0, 93, 44, 76, 167, 0, 109, 25, 5, 198, 0, 11, 25, 5, 180, 0, 93, 154, 0, 43]
abbrev dktJ40_balanceDeletion_16 : List UInt8 := dkwJ40_balanceDeletion_16 ++ dktJ40_balanceDeletion_17
def dkwJ40_balanceDeletion_15 : List UInt8 := [198, 0, 11, 25, 5, 180, 0, 93, 154, 0, 26, 25, 6, 198, 0, 11, 25, 6, 180, 0, 93, 154, 0, 13]
abbrev dktJ40_balanceDeletion_15 : List UInt8 := dkwJ40_balanceDeletion_15 ++ dktJ40_balanceDeletion_16
def dkwJ40_balanceDeletion_14 : List UInt8 := [199, 0, 8, 44, 76, 167, 254, 180, 45, 180, 0, 39, 58, 5, 45, 180, 0, 42, 58, 6, 25, 5]
abbrev dktJ40_balanceDeletion_14 : List UInt8 := dkwJ40_balanceDeletion_14 ++ dktJ40_balanceDeletion_15
def dkwJ40_balanceDeletion_13 : List UInt8 := [184, 0, 133, 75, 43, 180, 0, 9, 89, 77, 199, 0, 7, 1, 167, 0, 7, 44, 180, 0, 39, 78, 45]
abbrev dktJ40_balanceDeletion_13 : List UInt8 := dkwJ40_balanceDeletion_13 ++ dktJ40_balanceDeletion_14
def dkwJ40_balanceDeletion_12 : List UInt8 := [45, 198, 0, 44, 45, 180, 0, 93, 153, 0, 37, 45, 3, 181, 0, 93, 44, 4, 181, 0, 93, 42, 44]
abbrev dktJ40_balanceDeletion_12 : List UInt8 := dkwJ40_balanceDeletion_12 ++ dktJ40_balanceDeletion_13
def dkwJ40_balanceDeletion_11 : List UInt8 := [3, 181, 0, 93, 44, 198, 0, 14, 44, 3, 181, 0, 93, 42, 44, 184, 0, 130, 75, 42, 76, 167, 254, 234]
abbrev dktJ40_balanceDeletion_11 : List UInt8 := dkwJ40_balanceDeletion_11 ++ dktJ40_balanceDeletion_12
def dkwJ40_balanceDeletion_10 : List UInt8 := [3, 167, 0, 7, 44, 180, 0, 93, 181, 0, 93, 25, 4, 180, 0, 42, 89, 58, 6, 198, 0, 9, 25, 6]
abbrev dktJ40_balanceDeletion_10 : List UInt8 := dkwJ40_balanceDeletion_10 ++ dktJ40_balanceDeletion_11
def dkwJ40_balanceDeletion_9 : List UInt8 := [199, 0, 7, 1, 167, 0, 7, 44, 180, 0, 42, 58, 4, 25, 4, 198, 0, 37, 25, 4, 44, 199, 0, 7]
abbrev dktJ40_balanceDeletion_9 : List UInt8 := dkwJ40_balanceDeletion_9 ++ dktJ40_balanceDeletion_10
def dkwJ40_balanceDeletion_8 : List UInt8 := [181, 0, 93, 25, 4, 4, 181, 0, 93, 42, 25, 4, 184, 0, 133, 75, 43, 180, 0, 9, 89, 77]
abbrev dktJ40_balanceDeletion_8 : List UInt8 := dkwJ40_balanceDeletion_8 ++ dktJ40_balanceDeletion_9
def dkwJ40_balanceDeletion_7 : List UInt8 := [167, 0, 115, 25, 6, 198, 0, 11, 25, 6, 180, 0, 93, 154, 0, 46, 25, 5, 198, 0, 9, 25, 5, 3]
abbrev dktJ40_balanceDeletion_7 : List UInt8 := dkwJ40_balanceDeletion_7 ++ dktJ40_balanceDeletion_8
def dkwJ40_balanceDeletion_6 : List UInt8 := [154, 0, 27, 25, 5, 198, 0, 11, 25, 5, 180, 0, 93, 154, 0, 14, 25, 4, 4, 181, 0, 93, 44, 76]
abbrev dktJ40_balanceDeletion_6 : List UInt8 := dkwJ40_balanceDeletion_6 ++ dktJ40_balanceDeletion_7
def dkwJ40_balanceDeletion_5 : List UInt8 := [25, 4, 180, 0, 39, 58, 5, 25, 4, 180, 0, 42, 58, 6, 25, 6, 198, 0, 11, 25, 6, 180, 0, 93]
abbrev dktJ40_balanceDeletion_5 : List UInt8 := dkwJ40_balanceDeletion_5 ++ dktJ40_balanceDeletion_6
def dkwJ40_balanceDeletion_4 : List UInt8 := [199, 0, 7, 1, 167, 0, 7, 44, 180, 0, 42, 58, 4, 25, 4, 199, 0, 8, 44, 76, 167, 255, 144]
abbrev dktJ40_balanceDeletion_4 : List UInt8 := dkwJ40_balanceDeletion_4 ++ dktJ40_balanceDeletion_5
def dkwJ40_balanceDeletion_3 : List UInt8 := [25, 4, 3, 181, 0, 93, 44, 4, 181, 0, 93, 42, 44, 184, 0, 130, 75, 43, 180, 0, 9, 89, 77]
abbrev dktJ40_balanceDeletion_3 : List UInt8 := dkwJ40_balanceDeletion_3 ++ dktJ40_balanceDeletion_4
def dkwJ40_balanceDeletion_2 : List UInt8 := [78, 43, 166, 0, 233, 44, 180, 0, 42, 89, 58, 4, 198, 0, 47, 25, 4, 180, 0, 93, 153, 0, 39]
abbrev dktJ40_balanceDeletion_2 : List UInt8 := dkwJ40_balanceDeletion_2 ++ dktJ40_balanceDeletion_3
def dkwJ40_balanceDeletion_1 : List UInt8 := [181, 0, 93, 43, 176, 43, 180, 0, 93, 153, 0, 10, 43, 3, 181, 0, 93, 42, 176, 44, 180, 0, 39, 89]
abbrev dktJ40_balanceDeletion_1 : List UInt8 := dkwJ40_balanceDeletion_1 ++ dktJ40_balanceDeletion_2
def dkwJ40_balanceDeletion_0 : List UInt8 := [43, 198, 0, 8, 43, 42, 166, 0, 5, 42, 176, 43, 180, 0, 9, 89, 77, 199, 0, 10, 43, 3]
abbrev dktJ40_balanceDeletion_0 : List UInt8 := dkwJ40_balanceDeletion_0 ++ dktJ40_balanceDeletion_1
theorem dksJ40_balanceDeletion_0 : cJ40_balanceDeletion.data.toList.drop 0 = dktJ40_balanceDeletion_0 := by decide +kernel
theorem dksJ40_balanceDeletion_1 : cJ40_balanceDeletion.data.toList.drop 22 = dktJ40_balanceDeletion_1 := dk_seg dksJ40_balanceDeletion_0 22 rfl rfl
theorem dksJ40_balanceDeletion_2 : cJ40_balanceDeletion.data.toList.drop 46 = dktJ40_balanceDeletion_2 := dk_seg dksJ40_balanceDeletion_1 24 rfl rfl
theorem dksJ40_balanceDeletion_3 : cJ40_balanceDeletion.data.toList.drop 69 = dktJ40_balanceDeletion_3 := dk_seg dksJ40_balanceDeletion_2 23 rfl rfl
theorem dksJ40_balanceDeletion_4 : cJ40_balanceDeletion.data.toList.drop 92 = dktJ40_balanceDeletion_4 := dk_seg dksJ40_balanceDeletion_3 23 rfl rfl
theorem dksJ40_balanceDeletion_5 : cJ40_balanceDeletion.data.toList.drop 115 = dktJ40_balanceDeletion_5 := dk_seg dksJ40_balanceDeletion_4 23 rfl rfl
theorem dksJ40_balanceDeletion_6 : cJ40_balanceDeletion.data.toList.drop 139 = dktJ40_balanceDeletion_6 := dk_seg dksJ40_balanceDeletion_5 24 rfl rfl
theorem dksJ40_balanceDeletion_7 : cJ40_balanceDeletion.data.toList.drop 163 = dktJ40_balanceDeletion_7 := dk_seg dksJ40_balanceDeletion_6 24 rfl rfl
theorem dksJ40_balanceDeletion_8 : cJ40_balanceDeletion.data.toList.drop 187 = dktJ40_balanceDeletion_8 := dk_seg dksJ40_balanceDeletion_7 24 rfl rfl
theorem dksJ40_balanceDeletion_9 : cJ40_balanceDeletion.data.toList.drop 209 = dktJ40_balanceDeletion_9 := dk_seg dksJ40_balanceDeletion_8 22 rfl rfl
theorem dksJ40_balanceDeletion_10 : cJ40_balanceDeletion.data.toList.drop 233 = dktJ40_balanceDeletion_10 := dk_seg dksJ40_balanceDeletion_9 24 rfl rfl
theorem dksJ40_balanceDeletion_11 : cJ40_balanceDeletion.data.toList.drop 257 = dktJ40_balanceDeletion_11 := dk_seg dksJ40_balanceDeletion_10 24 rfl rfl
theorem dksJ40_balanceDeletion_12 : cJ40_balanceDeletion.data.toList.drop 281 = dktJ40_balanceDeletion_12 := dk_seg dksJ40_balanceDeletion_11 24 rfl rfl
theorem dksJ40_balanceDeletion_13 : cJ40_balanceDeletion.data.toList.drop 304 = dktJ40_balanceDeletion_13 := dk_seg dksJ40_balanceDeletion_12 23 rfl rfl
theorem dksJ40_balanceDeletion_14 : cJ40_balanceDeletion.data.toList.drop 327 = dktJ40_balanceDeletion_14 := dk_seg dksJ40_balanceDeletion_13 23 rfl rfl
theorem dksJ40_balanceDeletion_15 : cJ40_balanceDeletion.data.toList.drop 349 = dktJ40_balanceDeletion_15 := dk_seg dksJ40_balanceDeletion_14 22 rfl rfl
theorem dksJ40_balanceDeletion_16 : cJ40_balanceDeletion.data.toList.drop 373 = dktJ40_balanceDeletion_16 := dk_seg dksJ40_balanceDeletion_15 24 rfl rfl
theorem dksJ40_balanceDeletion_17 : cJ40_balanceDeletion.data.toList.drop 396 = dktJ40_balanceDeletion_17 := dk_seg dksJ40_balanceDeletion_16 23 rfl rfl
theorem dksJ40_balanceDeletion_18 : cJ40_balanceDeletion.data.toList.drop 419 = dktJ40_balanceDeletion_18 := dk_seg dksJ40_balanceDeletion_17 23 rfl rfl
theorem dksJ40_balanceDeletion_19 : cJ40_balanceDeletion.data.toList.drop 442 = dktJ40_balanceDeletion_19 := dk_seg dksJ40_balanceDeletion_18 23 rfl rfl
theorem dksJ40_balanceDeletion_20 : cJ40_balanceDeletion.data.toList.drop 466 = dktJ40_balanceDeletion_20 := dk_seg dksJ40_balanceDeletion_19 24 rfl rfl
theorem dksJ40_balanceDeletion_21 : cJ40_balanceDeletion.data.toList.drop 489 = dktJ40_balanceDeletion_21 := dk_seg dksJ40_balanceDeletion_20 23 rfl rfl
theorem dJ40_balanceDeletion_0 : decode cJ40_balanceDeletion 0 = .ok (.aload_n 1, 1) := dk_43 (dk_at dksJ40_balanceDeletion_0 0 rfl rfl)
theorem dJ40_balanceDeletion_1 : decode cJ40_balanceDeletion 1 = .ok (.ifnull 8, 3) := dk_198 0 8 (dk_at dksJ40_balanceDeletion_0 1 rfl rfl)
theorem dJ40_balanceDeletion_4 : decode cJ40_balanceDeletion 4 = .ok (.aload_n 1, 1) := dk_43 (dk_at dksJ40_balanceDeletion_0 4 rfl rfl)
theorem dJ40_balanceDeletion_5 : decode cJ40_balanceDeletion 5 = .ok (.aload_n 0, 1) := dk_42 (dk_at dksJ40_balanceDeletion_0 5 rfl rfl)
theorem dJ40_balanceDeletion_6 : decode cJ40_balanceDeletion 6 = .ok (.if_acmp .ne 5, 3) := dk_166 0 5 (dk_at dksJ40_balanceDeletion_0 6 rfl rfl)
theorem dJ40_balanceDeletion_9 : decode cJ40_balanceDeletion 9 = .ok (.aload_n 0, 1) := dk_42 (dk_at dksJ40_balanceDeletion_0 9 rfl rfl)
theorem dJ40_balanceDeletion_10 : decode cJ40_balanceDeletion 10 = .ok (.areturn, 1) := dk_176 (dk_at dksJ40_balanceDeletion_0 10 rfl rfl)
theorem dJ40_balanceDeletion_11 : decode cJ40_balanceDeletion 11 = .ok (.aload_n 1, 1) := dk_43 (dk_at dksJ40_balanceDeletion_0 11 rfl rfl)
theorem dJ40_balanceDeletion_12 : decode cJ40_balanceDeletion 12 = .ok (.getfield 9, 3) := dk_180 0 9 (dk_at dksJ40_balanceDeletion_0 12 rfl rfl)
theorem dJ40_balanceDeletion_15 : decode cJ40_balanceDeletion 15 = .ok (.dup, 1) := dk_89 (dk_at dksJ40_balanceDeletion_0 15 rfl rfl)
theorem dJ40_balanceDeletion_16 : decode cJ40_balanceDeletion 16 = .ok (.astore_n 2, 1) := dk_77 (dk_at dksJ40_balanceDeletion_0 16 rfl rfl)
theorem dJ40_balanceDeletion_17 : decode cJ40_balanceDeletion 17 = .ok (.ifnonnull 10, 3) := dk_199 0 10 (dk_at dksJ40_balanceDeletion_0 17 rfl rfl)
theorem dJ40_balanceDeletion_20 : decode cJ40_balanceDeletion 20 = .ok (.aload_n 1, 1) := dk_43 (dk_at dksJ40_balanceDeletion_0 20 rfl rfl)
theorem dJ40_balanceDeletion_21 : decode cJ40_balanceDeletion 21 = .ok (.iconst 0, 1) := dk_3 (dk_at dksJ40_balanceDeletion_0 21 rfl rfl)
theorem dJ40_balanceDeletion_22 : decode cJ40_balanceDeletion 22 = .ok (.putfield 93, 3) := dk_181 0 93 (dk_at dksJ40_balanceDeletion_1 0 rfl rfl)
theorem dJ40_balanceDeletion_25 : decode cJ40_balanceDeletion 25 = .ok (.aload_n 1, 1) := dk_43 (dk_at dksJ40_balanceDeletion_1 3 rfl rfl)
theorem dJ40_balanceDeletion_26 : decode cJ40_balanceDeletion 26 = .ok (.areturn, 1) := dk_176 (dk_at dksJ40_balanceDeletion_1 4 rfl rfl)
theorem dJ40_balanceDeletion_27 : decode cJ40_balanceDeletion 27 = .ok (.aload_n 1, 1) := dk_43 (dk_at dksJ40_balanceDeletion_1 5 rfl rfl)
theorem dJ40_balanceDeletion_28 : decode cJ40_balanceDeletion 28 = .ok (.getfield 93, 3) := dk_180 0 93 (dk_at dksJ40_balanceDeletion_1 6 rfl rfl)
theorem dJ40_balanceDeletion_31 : decode cJ40_balanceDeletion 31 = .ok (.ifCond .eq 10, 3) := dk_153 0 10 (dk_at dksJ40_balanceDeletion_1 9 rfl rfl)
theorem dJ40_balanceDeletion_34 : decode cJ40_balanceDeletion 34 = .ok (.aload_n 1, 1) := dk_43 (dk_at dksJ40_balanceDeletion_1 12 rfl rfl)
theorem dJ40_balanceDeletion_35 : decode cJ40_balanceDeletion 35 = .ok (.iconst 0, 1) := dk_3 (dk_at dksJ40_balanceDeletion_1 13 rfl rfl)
theorem dJ40_balanceDeletion_36 : decode cJ40_balanceDeletion 36 = .ok (.putfield 93, 3) := dk_181 0 93 (dk_at dksJ40_balanceDeletion_1 14 rfl rfl)
theorem dJ40_balanceDeletion_39 : decode cJ40_balanceDeletion 39 = .ok (.aload_n 0, 1) := dk_42 (dk_at dksJ40_balanceDeletion_1 17 rfl rfl)
theorem dJ40_balanceDeletion_40 : decode cJ40_balanceDeletion 40 = .ok (.areturn, 1) := dk_176 (dk_at dksJ40_balanceDeletion_1 18 rfl rfl)
theorem dJ40_balanceDeletion_41 : decode cJ40_balanceDeletion 41 = .ok (.aload_n 2, 1) := dk_44 (dk_at dksJ40_balanceDeletion_1 19 rfl rfl)
theorem dJ40_balanceDeletion_42 : decode cJ40_balanceDeletion 42 = .ok (.getfield 39, 3) := dk_180 0 39 (dk_at dksJ40_balanceDeletion_1 20 rfl rfl)
theorem dJ40_balanceDeletion_45 : decode cJ40_balanceDeletion 45 = .ok (.dup, 1) := dk_89 (dk_at dksJ40_balanceDeletion_1 23 rfl rfl)
theorem dJ40_balanceDeletion_46 : decode cJ40_balanceDeletion 46 = .ok (.astore_n 3, 1) := dk_78 (dk_at dksJ40_balanceDeletion_2 0 rfl rfl)
theorem dJ40_balanceDeletion_47 : decode cJ40_balanceDeletion 47 = .ok (.aload_n 1, 1) := dk_43 (dk_at dksJ40_balanceDeletion_2 1 rfl rfl)
theorem dJ40_balanceDeletion_48 : decode cJ40_balanceDeletion 48 = .ok (.if_acmp .ne 233, 3) := dk_166 0 233 (dk_at dksJ40_balanceDeletion_2 2 rfl rfl)
theorem dJ40_balanceDeletion_51 : decode cJ40_balanceDeletion 51 = .ok (.aload_n 2, 1) := dk_44 (dk_at dksJ40_balanceDeletion_2 5 rfl rfl)
theorem dJ40_balanceDeletion_52 : decode cJ40_balanceDeletion 52 = .ok (.getfield 42, 3) := dk_180 0 42 (dk_at dksJ40_balanceDeletion_2 6 rfl rfl)
theorem dJ40_balanceDeletion_55 : decode cJ40_balanceDeletion 55 = .ok (.dup, 1) := dk_89 (dk_at dksJ40_balanceDeletion_2 9 rfl rfl)
theorem dJ40_balanceDeletion_56 : decode cJ40_balanceDeletion 56 = .ok (.astore 4, 2) := dk_58 4 (dk_at dksJ40_balanceDeletion_2 10 rfl rfl)
theorem dJ40_balanceDeletion_58 : decode cJ40_balanceDeletion 58 = .ok (.ifnull 47, 3) := dk_198 0 47 (dk_at dksJ40_balanceDeletion_2 12 rfl rfl)
theorem dJ40_balanceDeletion_61 : decode cJ40_balanceDeletion 61 = .ok (.aload 4, 2) := dk_25 4 (dk_at dksJ40_balanceDeletion_2 15 rfl rfl)
theorem dJ40_balanceDeletion_63 : decode cJ40_balanceDeletion 63 = .ok (.getfield 93, 3) := dk_180 0 93 (dk_at dksJ40_balanceDeletion_2 17 rfl rfl)
theorem dJ40_balanceDeletion_66 : decode cJ40_balanceDeletion 66 = .ok (.ifCond .eq 39, 3) := dk_153 0 39 (dk_at dksJ40_balanceDeletion_2 20 rfl rfl)
theorem dJ40_balanceDeletion_69 : decode cJ40_balanceDeletion 69 = .ok (.aload 4, 2) := dk_25 4 (dk_at dksJ40_balanceDeletion_3 0 rfl rfl)
theorem dJ40_balanceDeletion_71 : decode cJ40_balanceDeletion 71 = .ok (.iconst 0, 1) := dk_3 (dk_at dksJ40_balanceDeletion_3 2 rfl rfl)
theorem dJ40_balanceDeletion_72 : decode cJ40_balanceDeletion 72 = .ok (.putfield 93, 3) := dk_181 0 93 (dk_at dksJ40_balanceDeletion_3 3 rfl rfl)
theorem dJ40_balanceDeletion_75 : decode cJ40_balanceDeletion 75 = .ok (.aload_n 2, 1) := dk_44 (dk_at dksJ40_balanceDeletion_3 6 rfl rfl)
theorem dJ40_balanceDeletion_76 : decode cJ40_balanceDeletion 76 = .ok (.iconst 1, 1) := dk_4 (dk_at dksJ40_balanceDeletion_3 7 rfl rfl)
theorem dJ40_balanceDeletion_77 : decode cJ40_balanceDeletion 77 = .ok (.putfield 93, 3) := dk_181 0 93 (dk_at dksJ40_balanceDeletion_3 8 rfl rfl)
theorem dJ40_balanceDeletion_80 : decode cJ40_balanceDeletion 80 = .ok (.aload_n 0, 1) := dk_42 (dk_at dksJ40_balanceDeletion_3 11 rfl rfl)
theorem dJ40_balanceDeletion_81 : decode cJ40_balanceDeletion 81 = .ok (.aload_n 2, 1) := dk_44 (dk_at dksJ40_balanceDeletion_3 12 rfl rfl)
theorem dJ40_balanceDeletion_82 : decode cJ40_balanceDeletion 82 = .ok (.invokestatic 130, 3) := dk_184 0 130 (dk_at dksJ40_balanceDeletion_3 13 rfl rfl)
theorem dJ40_balanceDeletion_85 : decode cJ40_balanceDeletion 85 = .ok (.astore_n 0, 1) := dk_75 (dk_at dksJ40_balanceDeletion_3 16 rfl rfl)
theorem dJ40_balanceDeletion_86 : decode cJ40_balanceDeletion 86 = .ok (.aload_n 1, 1) := dk_43 (dk_at dksJ40_balanceDeletion_3 17 rfl rfl)
theorem dJ40_balanceDeletion_87 : decode cJ40_balanceDeletion 87 = .ok (.getfield 9, 3) := dk_180 0 9 (dk_at dksJ40_balanceDeletion_3 18 rfl rfl)
theorem dJ40_balanceDeletion_90 : decode cJ40_balanceDeletion 90 = .ok (.dup, 1) := dk_89 (dk_at dksJ40_balanceDeletion_3 21 rfl rfl)
theorem dJ40_balanceDeletion_91 : decode cJ40_balanceDeletion 91 = .ok (.astore_n 2, 1) := dk_77 (dk_at dksJ40_balanceDeletion_3 22 rfl rfl)
theorem dJ40_balanceDeletion_92 : decode cJ40_balanceDeletion 92 = .ok (.ifnonnull 7, 3) := dk_199 0 7 (dk_at dksJ40_balanceDeletion_4 0 rfl rfl)
theorem dJ40_balanceDeletion_95 : decode cJ40_balanceDeletion 95 = .ok (.aconst_null, 1) := dk_1 (dk_at dksJ40_balanceDeletion_4 3 rfl rfl)
theorem dJ40_balanceDeletion_96 : decode cJ40_balanceDeletion 96 = .ok (.goto 7, 3) := dk_167 0 7 (dk_at dksJ40_balanceDeletion_4 4 rfl rfl)
theorem dJ40_balanceDeletion_99 : decode cJ40_balanceDeletion 99 = .ok (.aload_n 2, 1) := dk_44 (dk_at dksJ40_balanceDeletion_4 7 rfl rfl)
theorem dJ40_balanceDeletion_100 : decode cJ40_balanceDeletion 100 = .ok (.getfield 42, 3) := dk_180 0 42 (dk_at dksJ40_balanceDeletion_4 8 rfl rfl)
theorem dJ40_balanceDeletion_103 : decode cJ40_balanceDeletion 103 = .ok (.astore 4, 2) := dk_58 4 (dk_at dksJ40_balanceDeletion_4 11 rfl rfl)
theorem dJ40_balanceDeletion_105 : decode cJ40_balanceDeletion 105 = .ok (.aload 4, 2) := dk_25 4 (dk_at dksJ40_balanceDeletion_4 13 rfl rfl)
theorem dJ40_balanceDeletion_107 : decode cJ40_balanceDeletion 107 = .ok (.ifnonnull 8, 3) := dk_199 0 8 (dk_at dksJ40_balanceDeletion_4 15 rfl rfl)
theorem dJ40_balanceDeletion_110 : decode cJ40_balanceDeletion 110 = .ok (.aload_n 2, 1) := dk_44 (dk_at dksJ40_balanceDeletion_4 18 rfl rfl)
theorem dJ40_balanceDeletion_111 : decode cJ40_balanceDeletion 111 = .ok (.astore_n 1, 1) := dk_76 (dk_at dksJ40_balanceDeletion_4 19 rfl rfl)
theorem dJ40_balanceDeletion_112 : decode cJ40_balanceDeletion 112 = .ok (.goto (-112), 3) := dk_167 255 144 (dk_at dksJ40_balanceDeletion_4 20 rfl rfl)
theorem dJ40_balanceDeletion_115 : decode cJ40_balanceDeletion 115 = .ok (.aload 4, 2) := dk_25 4 (dk_at dksJ40_balanceDeletion_5 0 rfl rfl)
theorem dJ40_balanceDeletion_117 : decode cJ40_balanceDeletion 117 = .ok (.getfield 39, 3) := dk_180 0 39 (dk_at dksJ40_balanceDeletion_5 2 rfl rfl)
theorem dJ40_balanceDeletion_120 : decode cJ40_balanceDeletion 120 = .ok (.astore 5, 2) := dk_58 5 (dk_at dksJ40_balanceDeletion_5 5 rfl rfl)
theorem dJ40_balanceDeletion_122 : decode cJ40_balanceDeletion 122 = .ok (.aload 4, 2) := dk_25 4 (dk_at dksJ40_balanceDeletion_5 7 rfl rfl)
theorem dJ40_balanceDeletion_124 : decode cJ40_balanceDeletion 124 = .ok (.getfield 42, 3) := dk_180 0 42 (dk_at dksJ40_balanceDeletion_5 9 rfl rfl)
theorem dJ40_balanceDeletion_127 : decode cJ40_balanceDeletion 127 = .ok (.astore 6, 2) := dk_58 6 (dk_at dksJ40_balanceDeletion_5 12 rfl rfl)
theorem dJ40_balanceDeletion_129 : decode cJ40_balanceDeletion 129 = .ok (.aload 6, 2) := dk_25 6 (dk_at dksJ40_balanceDeletion_5 14 rfl rfl)
theorem dJ40_balanceDeletion_131 : decode cJ40_balanceDeletion 131 = .ok (.ifnull 11, 3) := dk_198 0 11 (dk_at dksJ40_balanceDeletion_5 16 rfl rfl)
theorem dJ40_balanceDeletion_134 : decode cJ40_balanceDeletion 134 = .ok (.aload 6, 2) := dk_25 6 (dk_at dksJ40_balanceDeletion_5 19 rfl rfl)
theorem dJ40_balanceDeletion_136 : decode cJ40_balanceDeletion 136 = .ok (.getfield 93, 3) := dk_180 0 93 (dk_at dksJ40_balanceDeletion_5 21 rfl rfl)
theorem dJ40_balanceDeletion_139 : decode cJ40_balanceDeletion 139 = .ok (.ifCond .ne 27, 3) := dk_154 0 27 (dk_at dksJ40_balanceDeletion_6 0 rfl rfl)
theorem dJ40_balanceDeletion_142 : decode cJ40_balanceDeletion 142 = .ok (.aload 5, 2) := dk_25 5 (dk_at dksJ40_balanceDeletion_6 3 rfl rfl)
theorem dJ40_balanceDeletion_144 : decode cJ40_balanceDeletion 144 = .ok (.ifnull 11, 3) := dk_198 0 11 (dk_at dksJ40_balanceDeletion_6 5 rfl rfl)
theorem dJ40_balanceDeletion_147 : decode cJ40_balanceDeletion 147 = .ok (.aload 5, 2) := dk_25 5 (dk_at dksJ40_balanceDeletion_6 8 rfl rfl)
theorem dJ40_balanceDeletion_149 : decode cJ40_balanceDeletion 149 = .ok (.getfield 93, 3) := dk_180 0 93 (dk_at dksJ40_balanceDeletion_6 10 rfl rfl)
theorem dJ40_balanceDeletion_152 : decode cJ40_balanceDeletion 152 = .ok (.ifCond .ne 14, 3) := dk_154 0 14 (dk_at dksJ40_balanceDeletion_6 13 rfl rfl)
theorem dJ40_balanceDeletion_155 : decode cJ40_balanceDeletion 155 = .ok (.aload 4, 2) := dk_25 4 (dk_at dksJ40_balanceDeletion_6 16 rfl rfl)
theorem dJ40_balanceDeletion_157 : decode cJ40_balanceDeletion 157 = .ok (.iconst 1, 1) := dk_4 (dk_at dksJ40_balanceDeletion_6 18 rfl rfl)
theorem dJ40_balanceDeletion_158 : decode cJ40_balanceDeletion 158 = .ok (.putfield 93, 3) := dk_181 0 93 (dk_at dksJ40_balanceDeletion_6 19 rfl rfl)
theorem dJ40_balanceDeletion_161 : decode cJ40_balanceDeletion 161 = .ok (.aload_n 2, 1) := dk_44 (dk_at dksJ40_balanceDeletion_6 22 rfl rfl)
theorem dJ40_balanceDeletion_162 : decode cJ40_balanceDeletion 162 = .ok (.astore_n 1, 1) := dk_76 (dk_at dksJ40_balanceDeletion_6 23 rfl rfl)
theorem dJ40_balanceDeletion_163 : decode cJ40_balanceDeletion 163 = .ok (.goto 115, 3) := dk_167 0 115 (dk_at dksJ40_balanceDeletion_7 0 rfl rfl)
theorem dJ40_balanceDeletion_166 : decode cJ40_balanceDeletion 166 = .ok (.aload 6, 2) := dk_25 6 (dk_at dksJ40_balanceDeletion_7 3 rfl rfl)
theorem dJ40_balanceDeletion_168 : decode cJ40_balanceDeletion 168 = .ok (.ifnull 11, 3) := dk_198 0 11 (dk_at dksJ40_balanceDeletion_7 5 rfl rfl)
theorem dJ40_balanceDeletion_171 : decode cJ40_balanceDeletion 171 = .ok (.aload 6, 2) := dk_25 6 (dk_at dksJ40_balanceDeletion_7 8 rfl rfl)
theorem dJ40_balanceDeletion_173 : decode cJ40_balanceDeletion 173 = .ok (.getfield 93, 3) := dk_180 0 93 (dk_at dksJ40_balanceDeletion_7 10 rfl rfl)
theorem dJ40_balanceDeletion_176 : decode cJ40_balanceDeletion 176 = .ok (.ifCond .ne 46, 3) := dk_154 0 46 (dk_at dksJ40_balanceDeletion_7 13 rfl rfl)
theorem dJ40_balanceDeletion_179 : decode cJ40_balanceDeletion 179 = .ok (.aload 5, 2) := dk_25 5 (dk_at dksJ40_balanceDeletion_7 16 rfl rfl)
theorem dJ40_balanceDeletion_181 : decode cJ40_balanceDeletion 181 = .ok (.ifnull 9, 3) := dk_198 0 9 (dk_at dksJ40_balanceDeletion_7 18 rfl rfl)
theorem dJ40_balanceDeletion_184 : decode cJ40_balanceDeletion 184 = .ok (.aload 5, 2) := dk_25 5 (dk_at dksJ40_balanceDeletion_7 21 rfl rfl)
theorem dJ40_balanceDeletion_186 : decode cJ40_balanceDeletion 186 = .ok (.iconst 0, 1) := dk_3 (dk_at dksJ40_balanceDeletion_7 23 rfl rfl)
theorem dJ40_balanceDeletion_187 : decode cJ40_balanceDeletion 187 = .ok (.putfield 93, 3) := dk_181 0 93 (dk_at dksJ40_balanceDeletion_8 0 rfl rfl)
theorem dJ40_balanceDeletion_190 : decode cJ40_balanceDeletion 190 = .ok (.aload 4, 2) := dk_25 4 (dk_at dksJ40_balanceDeletion_8 3 rfl rfl)
theorem dJ40_balanceDeletion_192 : decode cJ40_balanceDeletion 192 = .ok (.iconst 1, 1) := dk_4 (dk_at dksJ40_balanceDeletion_8 5 rfl rfl)
theorem dJ40_balanceDeletion_193 : decode cJ40_balanceDeletion 193 = .ok (.putfield 93, 3) := dk_181 0 93 (dk_at dksJ40_balanceDeletion_8 6 rfl rfl)
theorem dJ40_balanceDeletion_196 : decode cJ40_balanceDeletion 196 = .ok (.aload_n 0, 1) := dk_42 (dk_at dksJ40_balanceDeletion_8 9 rfl rfl)
theorem dJ40_balanceDeletion_197 : decode cJ40_balanceDeletion 197 = .ok (.aload 4, 2) := dk_25 4 (dk_at dksJ40_balanceDeletion_8 10 rfl rfl)
theorem dJ40_balanceDeletion_199 : decode cJ40_balanceDeletion 199 = .ok (.invokestatic 133, 3) := dk_184 0 133 (dk_at dksJ40_balanceDeletion_8 12 rfl rfl)
theorem dJ40_balanceDeletion_202 : decode cJ40_balanceDeletion 202 = .ok (.astore_n 0, 1) := dk_75 (dk_at dksJ40_balanceDeletion_8 15 rfl rfl)
theorem dJ40_balanceDeletion_203 : decode cJ40_balanceDeletion 203 = .ok (.aload_n 1, 1) := dk_43 (dk_at dksJ40_balanceDeletion_8 16 rfl rfl)
theorem dJ40_balanceDeletion_204 : decode cJ40_balanceDeletion 204 = .ok (.getfield 9, 3) := dk_180 0 9 (dk_at dksJ40_balanceDeletion_8 17 rfl rfl)
theorem dJ40_balanceDeletion_207 : decode cJ40_balanceDeletion 207 = .ok (.dup, 1) := dk_89 (dk_at dksJ40_balanceDeletion_8 20 rfl rfl)
theorem dJ40_balanceDeletion_208 : decode cJ40_balanceDeletion 208 = .ok (.astore_n 2, 1) := dk_77 (dk_at dksJ40_balanceDeletion_8 21 rfl rfl)
theorem dJ40_balanceDeletion_209 : decode cJ40_balanceDeletion 209 = .ok (.ifnonnull 7, 3) := dk_199 0 7 (dk_at dksJ40_balanceDeletion_9 0 rfl rfl)
theorem dJ40_balanceDeletion_212 : decode cJ40_balanceDeletion 212 = .ok (.aconst_null, 1) := dk_1 (dk_at dksJ40_balanceDeletion_9 3 rfl rfl)
theorem dJ40_balanceDeletion_213 : decode cJ40_balanceDeletion 213 = .ok (.goto 7, 3) := dk_167 0 7 (dk_at dksJ40_balanceDeletion_9 4 rfl rfl)
theorem dJ40_balanceDeletion_216 : decode cJ40_balanceDeletion 216 = .ok (.aload_n 2, 1) := dk_44 (dk_at dksJ40_balanceDeletion_9 7 rfl rfl)
theorem dJ40_balanceDeletion_217 : decode cJ40_balanceDeletion 217 = .ok (.getfield 42, 3) := dk_180 0 42 (dk_at dksJ40_balanceDeletion_9 8 rfl rfl)
theorem dJ40_balanceDeletion_220 : decode cJ40_balanceDeletion 220 = .ok (.astore 4, 2) := dk_58 4 (dk_at dksJ40_balanceDeletion_9 11 rfl rfl)
theorem dJ40_balanceDeletion_222 : decode cJ40_balanceDeletion 222 = .ok (.aload 4, 2) := dk_25 4 (dk_at dksJ40_balanceDeletion_9 13 rfl rfl)
theorem dJ40_balanceDeletion_224 : decode cJ40_balanceDeletion 224 = .ok (.ifnull 37, 3) := dk_198 0 37 (dk_at dksJ40_balanceDeletion_9 15 rfl rfl)
theorem dJ40_balanceDeletion_227 : decode cJ40_balanceDeletion 227 = .ok (.aload 4, 2) := dk_25 4 (dk_at dksJ40_balanceDeletion_9 18 rfl rfl)
theorem dJ40_balanceDeletion_229 : decode cJ40_balanceDeletion 229 = .ok (.aload_n 2, 1) := dk_44 (dk_at dksJ40_balanceDeletion_9 20 rfl rfl)
theorem dJ40_balanceDeletion_230 : decode cJ40_balanceDeletion 230 = .ok (.ifnonnull 7, 3) := dk_199 0 7 (dk_at dksJ40_balanceDeletion_9 21 rfl rfl)
theorem dJ40_balanceDeletion_233 : decode cJ40_balanceDeletion 233 = .ok (.iconst 0, 1) := dk_3 (dk_at dksJ40_balanceDeletion_10 0 rfl rfl)
theorem dJ40_balanceDeletion_234 : decode cJ40_balanceDeletion 234 = .ok (.goto 7, 3) := dk_167 0 7 (dk_at dksJ40_balanceDeletion_10 1 rfl rfl)
theorem dJ40_balanceDeletion_237 : decode cJ40_balanceDeletion 237 = .ok (.aload_n 2, 1) := dk_44 (dk_at dksJ40_balanceDeletion_10 4 rfl rfl)
theorem dJ40_balanceDeletion_238 : decode cJ40_balanceDeletion 238 = .ok (.getfield 93, 3) := dk_180 0 93 (dk_at dksJ40_balanceDeletion_10 5 rfl rfl)
theorem dJ40_balanceDeletion_241 : decode cJ40_balanceDeletion 241 = .ok (.putfield 93, 3) := dk_181 0 93 (dk_at dksJ40_balanceDeletion_10 8 rfl rfl)
theorem dJ40_balanceDeletion_244 : decode cJ40_balanceDeletion 244 = .ok (.aload 4, 2) := dk_25 4 (dk_at dksJ40_balanceDeletion_10 11 rfl rfl)
theorem dJ40_balanceDeletion_246 : decode cJ40_balanceDeletion 246 = .ok (.getfield 42, 3) := dk_180 0 42 (dk_at dksJ40_balanceDeletion_10 13 rfl rfl)
theorem dJ40_balanceDeletion_249 : decode cJ40_balanceDeletion 249 = .ok (.dup, 1) := dk_89 (dk_at dksJ40_balanceDeletion_10 16 rfl rfl)
theorem dJ40_balanceDeletion_250 : decode cJ40_balanceDeletion 250 = .ok (.astore 6, 2) := dk_58 6 (dk_at dksJ40_balanceDeletion_10 17 rfl rfl)
theorem dJ40_balanceDeletion_252 : decode cJ40_balanceDeletion 252 = .ok (.ifnull 9, 3) := dk_198 0 9 (dk_at dksJ40_balanceDeletion_10 19 rfl rfl)
theorem dJ40_balanceDeletion_255 : decode cJ40_balanceDeletion 255 = .ok (.aload 6, 2) := dk_25 6 (dk_at dksJ40_balanceDeletion_10 22 rfl rfl)
theorem dJ40_balanceDeletion_257 : decode cJ40_balanceDeletion 257 = .ok (.iconst 0, 1) := dk_3 (dk_at dksJ40_balanceDeletion_11 0 rfl rfl)
theorem dJ40_balanceDeletion_258 : decode cJ40_balanceDeletion 258 = .ok (.putfield 93, 3) := dk_181 0 93 (dk_at dksJ40_balanceDeletion_11 1 rfl rfl)
theorem dJ40_balanceDeletion_261 : decode cJ40_balanceDeletion 261 = .ok (.aload_n 2, 1) := dk_44 (dk_at dksJ40_balanceDeletion_11 4 rfl rfl)
theorem dJ40_balanceDeletion_262 : decode cJ40_balanceDeletion 262 = .ok (.ifnull 14, 3) := dk_198 0 14 (dk_at dksJ40_balanceDeletion_11 5 rfl rfl)
theorem dJ40_balanceDeletion_265 : decode cJ40_balanceDeletion 265 = .ok (.aload_n 2, 1) := dk_44 (dk_at dksJ40_balanceDeletion_11 8 rfl rfl)
theorem dJ40_balanceDeletion_266 : decode cJ40_balanceDeletion 266 = .ok (.iconst 0, 1) := dk_3 (dk_at dksJ40_balanceDeletion_11 9 rfl rfl)
theorem dJ40_balanceDeletion_267 : decode cJ40_balanceDeletion 267 = .ok (.putfield 93, 3) := dk_181 0 93 (dk_at dksJ40_balanceDeletion_11 10 rfl rfl)
theorem dJ40_balanceDeletion_270 : decode cJ40_balanceDeletion 270 = .ok (.aload_n 0, 1) := dk_42 (dk_at dksJ40_balanceDeletion_11 13 rfl rfl)
theorem dJ40_balanceDeletion_271 : decode cJ40_balanceDeletion 271 = .ok (.aload_n 2, 1) := dk_44 (dk_at dksJ40_balanceDeletion_11 14 rfl rfl)
theorem dJ40_balanceDeletion_272 : decode cJ40_balanceDeletion 272 = .ok (.invokestatic 130, 3) := dk_184 0 130 (dk_at dksJ40_balanceDeletion_11 15 rfl rfl)
theorem dJ40_balanceDeletion_275 : decode cJ40_balanceDeletion 275 = .ok (.astore_n 0, 1) := dk_75 (dk_at dksJ40_balanceDeletion_11 18 rfl rfl)
theorem dJ40_balanceDeletion_276 : decode cJ40_balanceDeletion 276 = .ok (.aload_n 0, 1) := dk_42 (dk_at dksJ40_balanceDeletion_11 19 rfl rfl)
theorem dJ40_balanceDeletion_277 : decode cJ40_balanceDeletion 277 = .ok (.astore_n 1, 1) := dk_76 (dk_at dksJ40_balanceDeletion_11 20 rfl rfl)
theorem dJ40_balanceDeletion_278 : decode cJ40_balanceDeletion 278 = .ok (.goto (-278), 3) := dk_167 254 234 (dk_at dksJ40_balanceDeletion_11 21 rfl rfl)
theorem dJ40_balanceDeletion_281 : decode cJ40_balanceDeletion 281 = .ok (.aload_n 3, 1) := dk_45 (dk_at dksJ40_balanceDeletion_12 0 rfl rfl)
theorem dJ40_balanceDeletion_282 : decode cJ40_balanceDeletion 282 = .ok (.ifnull 44, 3) := dk_198 0 44 (dk_at dksJ40_balanceDeletion_12 1 rfl rfl)
theorem dJ40_balanceDeletion_285 : decode cJ40_balanceDeletion 285 = .ok (.aload_n 3, 1) := dk_45 (dk_at dksJ40_balanceDeletion_12 4 rfl rfl)
theorem dJ40_balanceDeletion_286 : decode cJ40_balanceDeletion 286 = .ok (.getfield 93, 3) := dk_180 0 93 (dk_at dksJ40_balanceDeletion_12 5 rfl rfl)
theorem dJ40_balanceDeletion_289 : decode cJ40_balanceDeletion 289 = .ok (.ifCond .eq 37, 3) := dk_153 0 37 (dk_at dksJ40_balanceDeletion_12 8 rfl rfl)
theorem dJ40_balanceDeletion_292 : decode cJ40_balanceDeletion 292 = .ok (.aload_n 3, 1) := dk_45 (dk_at dksJ40_balanceDeletion_12 11 rfl rfl)
theorem dJ40_balanceDeletion_293 : decode cJ40_balanceDeletion 293 = .ok (.iconst 0, 1) := dk_3 (dk_at dksJ40_balanceDeletion_12 12 rfl rfl)
theorem dJ40_balanceDeletion_294 : decode cJ40_balanceDeletion 294 = .ok (.putfield 93, 3) := dk_181 0 93 (dk_at dksJ40_balanceDeletion_12 13 rfl rfl)
theorem dJ40_balanceDeletion_297 : decode cJ40_balanceDeletion 297 = .ok (.aload_n 2, 1) := dk_44 (dk_at dksJ40_balanceDeletion_12 16 rfl rfl)
theorem dJ40_balanceDeletion_298 : decode cJ40_balanceDeletion 298 = .ok (.iconst 1, 1) := dk_4 (dk_at dksJ40_balanceDeletion_12 17 rfl rfl)
theorem dJ40_balanceDeletion_299 : decode cJ40_balanceDeletion 299 = .ok (.putfield 93, 3) := dk_181 0 93 (dk_at dksJ40_balanceDeletion_12 18 rfl rfl)
theorem dJ40_balanceDeletion_302 : decode cJ40_balanceDeletion 302 = .ok (.aload_n 0, 1) := dk_42 (dk_at dksJ40_balanceDeletion_12 21 rfl rfl)
theorem dJ40_balanceDeletion_303 : decode cJ40_balanceDeletion 303 = .ok (.aload_n 2, 1) := dk_44 (dk_at dksJ40_balanceDeletion_12 22 rfl rfl)
theorem dJ40_balanceDeletion_304 : decode cJ40_balanceDeletion 304 = .ok (.invokestatic 133, 3) := dk_184 0 133 (dk_at dksJ40_balanceDeletion_13 0 rfl rfl)
theorem dJ40_balanceDeletion_307 : decode cJ40_balanceDeletion 307 = .ok (.astore_n 0, 1) := dk_75 (dk_at dksJ40_balanceDeletion_13 3 rfl rfl)
theorem dJ40_balanceDeletion_308 : decode cJ40_balanceDeletion 308 = .ok (.aload_n 1, 1) := dk_43 (dk_at dksJ40_balanceDeletion_13 4 rfl rfl)
theorem dJ40_balanceDeletion_309 : decode cJ40_balanceDeletion 309 = .ok (.getfield 9, 3) := dk_180 0 9 (dk_at dksJ40_balanceDeletion_13 5 rfl rfl)
theorem dJ40_balanceDeletion_312 : decode cJ40_balanceDeletion 312 = .ok (.dup, 1) := dk_89 (dk_at dksJ40_balanceDeletion_13 8 rfl rfl)
theorem dJ40_balanceDeletion_313 : decode cJ40_balanceDeletion 313 = .ok (.astore_n 2, 1) := dk_77 (dk_at dksJ40_balanceDeletion_13 9 rfl rfl)
theorem dJ40_balanceDeletion_314 : decode cJ40_balanceDeletion 314 = .ok (.ifnonnull 7, 3) := dk_199 0 7 (dk_at dksJ40_balanceDeletion_13 10 rfl rfl)
theorem dJ40_balanceDeletion_317 : decode cJ40_balanceDeletion 317 = .ok (.aconst_null, 1) := dk_1 (dk_at dksJ40_balanceDeletion_13 13 rfl rfl)
theorem dJ40_balanceDeletion_318 : decode cJ40_balanceDeletion 318 = .ok (.goto 7, 3) := dk_167 0 7 (dk_at dksJ40_balanceDeletion_13 14 rfl rfl)
theorem dJ40_balanceDeletion_321 : decode cJ40_balanceDeletion 321 = .ok (.aload_n 2, 1) := dk_44 (dk_at dksJ40_balanceDeletion_13 17 rfl rfl)
theorem dJ40_balanceDeletion_322 : decode cJ40_balanceDeletion 322 = .ok (.getfield 39, 3) := dk_180 0 39 (dk_at dksJ40_balanceDeletion_13 18 rfl rfl)
theorem dJ40_balanceDeletion_325 : decode cJ40_balanceDeletion 325 = .ok (.astore_n 3, 1) := dk_78 (dk_at dksJ40_balanceDeletion_13 21 rfl rfl)
theorem dJ40_balanceDeletion_326 : decode cJ40_balanceDeletion 326 = .ok (.aload_n 3, 1) := dk_45 (dk_at dksJ40_balanceDeletion_13 22 rfl rfl)
theorem dJ40_balanceDeletion_327 : decode cJ40_balanceDeletion 327 = .ok (.ifnonnull 8, 3) := dk_199 0 8 (dk_at dksJ40_balanceDeletion_14 0 rfl rfl)
theorem dJ40_balanceDeletion_330 : decode cJ40_balanceDeletion 330 = .ok (.aload_n 2, 1) := dk_44 (dk_at dksJ40_balanceDeletion_14 3 rfl rfl)
theorem dJ40_balanceDeletion_331 : decode cJ40_balanceDeletion 331 = .ok (.astore_n 1, 1) := dk_76 (dk_at dksJ40_balanceDeletion_14 4 rfl rfl)
theorem dJ40_balanceDeletion_332 : decode cJ40_balanceDeletion 332 = .ok (.goto (-332), 3) := dk_167 254 180 (dk_at dksJ40_balanceDeletion_14 5 rfl rfl)
theorem dJ40_balanceDeletion_335 : decode cJ40_balanceDeletion 335 = .ok (.aload_n 3, 1) := dk_45 (dk_at dksJ40_balanceDeletion_14 8 rfl rfl)
theorem dJ40_balanceDeletion_336 : decode cJ40_balanceDeletion 336 = .ok (.getfield 39, 3) := dk_180 0 39 (dk_at dksJ40_balanceDeletion_14 9 rfl rfl)
theorem dJ40_balanceDeletion_339 : decode cJ40_balanceDeletion 339 = .ok (.astore 5, 2) := dk_58 5 (dk_at dksJ40_balanceDeletion_14 12 rfl rfl)
theorem dJ40_balanceDeletion_341 : decode cJ40_balanceDeletion 341 = .ok (.aload_n 3, 1) := dk_45 (dk_at dksJ40_balanceDeletion_14 14 rfl rfl)
theorem dJ40_balanceDeletion_342 : decode cJ40_balanceDeletion 342 = .ok (.getfield 42, 3) := dk_180 0 42 (dk_at dksJ40_balanceDeletion_14 15 rfl rfl)
theorem dJ40_balanceDeletion_345 : decode cJ40_balanceDeletion 345 = .ok (.astore 6, 2) := dk_58 6 (dk_at dksJ40_balanceDeletion_14 18 rfl rfl)
theorem dJ40_balanceDeletion_347 : decode cJ40_balanceDeletion 347 = .ok (.aload 5, 2) := dk_25 5 (dk_at dksJ40_balanceDeletion_14 20 rfl rfl)
theorem dJ40_balanceDeletion_349 : decode cJ40_balanceDeletion 349 = .ok (.ifnull 11, 3) := dk_198 0 11 (dk_at dksJ40_balanceDeletion_15 0 rfl rfl)
theorem dJ40_balanceDeletion_352 : decode cJ40_balanceDeletion 352 = .ok (.aload 5, 2) := dk_25 5 (dk_at dksJ40_balanceDeletion_15 3 rfl rfl)
theorem dJ40_balanceDeletion_354 : decode cJ40_balanceDeletion 354 = .ok (.getfield 93, 3) := dk_180 0 93 (dk_at dksJ40_balanceDeletion_15 5 rfl rfl)
theorem dJ40_balanceDeletion_357 : decode cJ40_balanceDeletion 357 = .ok (.ifCond .ne 26, 3) := dk_154 0 26 (dk_at dksJ40_balanceDeletion_15 8 rfl rfl)
theorem dJ40_balanceDeletion_360 : decode cJ40_balanceDeletion 360 = .ok (.aload 6, 2) := dk_25 6 (dk_at dksJ40_balanceDeletion_15 11 rfl rfl)
theorem dJ40_balanceDeletion_362 : decode cJ40_balanceDeletion 362 = .ok (.ifnull 11, 3) := dk_198 0 11 (dk_at dksJ40_balanceDeletion_15 13 rfl rfl)
theorem dJ40_balanceDeletion_365 : decode cJ40_balanceDeletion 365 = .ok (.aload 6, 2) := dk_25 6 (dk_at dksJ40_balanceDeletion_15 16 rfl rfl)
theorem dJ40_balanceDeletion_367 : decode cJ40_balanceDeletion 367 = .ok (.getfield 93, 3) := dk_180 0 93 (dk_at dksJ40_balanceDeletion_15 18 rfl rfl)
theorem dJ40_balanceDeletion_370 : decode cJ40_balanceDeletion 370 = .ok (.ifCond .ne 13, 3) := dk_154 0 13 (dk_at dksJ40_balanceDeletion_15 21 rfl rfl)
theorem dJ40_balanceDeletion_373 : decode cJ40_balanceDeletion 373 = .ok (.aload_n 3, 1) := dk_45 (dk_at dksJ40_balanceDeletion_16 0 rfl rfl)
theorem dJ40_balanceDeletion_374 : decode cJ40_balanceDeletion 374 = .ok (.iconst 1, 1) := dk_4 (dk_at dksJ40_balanceDeletion_16 1 rfl rfl)
theorem dJ40_balanceDeletion_375 : decode cJ40_balanceDeletion 375 = .ok (.putfield 93, 3) := dk_181 0 93 (dk_at dksJ40_balanceDeletion_16 2 rfl rfl)
theorem dJ40_balanceDeletion_378 : decode cJ40_balanceDeletion 378 = .ok (.aload_n 2, 1) := dk_44 (dk_at dksJ40_balanceDeletion_16 5 rfl rfl)
theorem dJ40_balanceDeletion_379 : decode cJ40_balanceDeletion 379 = .ok (.astore_n 1, 1) := dk_76 (dk_at dksJ40_balanceDeletion_16 6 rfl rfl)
theorem dJ40_balanceDeletion_380 : decode cJ40_balanceDeletion 380 = .ok (.goto 109, 3) := dk_167 0 109 (dk_at dksJ40_balanceDeletion_16 7 rfl rfl)
theorem dJ40_balanceDeletion_383 : decode cJ40_balanceDeletion 383 = .ok (.aload 5, 2) := dk_25 5 (dk_at dksJ40_balanceDeletion_16 10 rfl rfl)
theorem dJ40_balanceDeletion_385 : decode cJ40_balanceDeletion 385 = .ok (.ifnull 11, 3) := dk_198 0 11 (dk_at dksJ40_balanceDeletion_16 12 rfl rfl)
theorem dJ40_balanceDeletion_388 : decode cJ40_balanceDeletion 388 = .ok (.aload 5, 2) := dk_25 5 (dk_at dksJ40_balanceDeletion_16 15 rfl rfl)
theorem dJ40_balanceDeletion_390 : decode cJ40_balanceDeletion 390 = .ok (.getfield 93, 3) := dk_180 0 93 (dk_at dksJ40_balanceDeletion_16 17 rfl rfl)
theorem dJ40_balanceDeletion_393 : decode cJ40_balanceDeletion 393 = .ok (.ifCond .ne 43, 3) := dk_154 0 43 (dk_at dksJ40_balanceDeletion_16 20 rfl rfl)
theorem dJ40_balanceDeletion_396 : decode cJ40_balanceDeletion 396 = .ok (.aload 6, 2) := dk_25 6 (dk_at dksJ40_balanceDeletion_17 0 rfl rfl)
theorem dJ40_balanceDeletion_398 : decode cJ40_balanceDeletion 398 = .ok (.ifnull 9, 3) := dk_198 0 9 (dk_at dksJ40_balanceDeletion_17 2 rfl rfl)
theorem dJ40_balanceDeletion_401 : decode cJ40_balanceDeletion 401 = .ok (.aload 6, 2) := dk_25 6 (dk_at dksJ40_balanceDeletion_17 5 rfl rfl)
theorem dJ40_balanceDeletion_403 : decode cJ40_balanceDeletion 403 = .ok (.iconst 0, 1) := dk_3 (dk_at dksJ40_balanceDeletion_17 7 rfl rfl)
theorem dJ40_balanceDeletion_404 : decode cJ40_balanceDeletion 404 = .ok (.putfield 93, 3) := dk_181 0 93 (dk_at dksJ40_balanceDeletion_17 8 rfl rfl)
theorem dJ40_balanceDeletion_407 : decode cJ40_balanceDeletion 407 = .ok (.aload_n 3, 1) := dk_45 (dk_at dksJ40_balanceDeletion_17 11 rfl rfl)
theorem dJ40_balanceDeletion_408 : decode cJ40_balanceDeletion 408 = .ok (.iconst 1, 1) := dk_4 (dk_at dksJ40_balanceDeletion_17 12 rfl rfl)
theorem dJ40_balanceDeletion_409 : decode cJ40_balanceDeletion 409 = .ok (.putfield 93, 3) := dk_181 0 93 (dk_at dksJ40_balanceDeletion_17 13 rfl rfl)
theorem dJ40_balanceDeletion_412 : decode cJ40_balanceDeletion 412 = .ok (.aload_n 0, 1) := dk_42 (dk_at dksJ40_balanceDeletion_17 16 rfl rfl)
theorem dJ40_balanceDeletion_413 : decode cJ40_balanceDeletion 413 = .ok (.aload_n 3, 1) := dk_45 (dk_at dksJ40_balanceDeletion_17 17 rfl rfl)
theorem dJ40_balanceDeletion_414 : decode cJ40_balanceDeletion 414 = .ok (.invokestatic 130, 3) := dk_184 0 130 (dk_at dksJ40_balanceDeletion_17 18 rfl rfl)
theorem dJ40_balanceDeletion_417 : decode cJ40_balanceDeletion 417 = .ok (.astore_n 0, 1) := dk_75 (dk_at dksJ40_balanceDeletion_17 21 rfl rfl)
theorem dJ40_balanceDeletion_418 : decode cJ40_balanceDeletion 418 = .ok (.aload_n 1, 1) := dk_43 (dk_at dksJ40_balanceDeletion_17 22 rfl rfl)
theorem dJ40_balanceDeletion_419 : decode cJ40_balanceDeletion 419 = .ok (.getfield 9, 3) := dk_180 0 9 (dk_at dksJ40_balanceDeletion_18 0 rfl rfl)
theorem dJ40_balanceDeletion_422 : decode cJ40_balanceDeletion 422 = .ok (.dup, 1) := dk_89 (dk_at dksJ40_balanceDeletion_18 3 rfl rfl)
theorem dJ40_balanceDeletion_423 : decode cJ40_balanceDeletion 423 = .ok (.astore_n 2, 1) := dk_77 (dk_at dksJ40_balanceDeletion_18 4 rfl rfl)
theorem dJ40_balanceDeletion_424 : decode cJ40_balanceDeletion 424 = .ok (.ifnonnull 7, 3) := dk_199 0 7 (dk_at dksJ40_balanceDeletion_18 5 rfl rfl)
theorem dJ40_balanceDeletion_427 : decode cJ40_balanceDeletion 427 = .ok (.aconst_null, 1) := dk_1 (dk_at dksJ40_balanceDeletion_18 8 rfl rfl)
theorem dJ40_balanceDeletion_428 : decode cJ40_balanceDeletion 428 = .ok (.goto 7, 3) := dk_167 0 7 (dk_at dksJ40_balanceDeletion_18 9 rfl rfl)
theorem dJ40_balanceDeletion_431 : decode cJ40_balanceDeletion 431 = .ok (.aload_n 2, 1) := dk_44 (dk_at dksJ40_balanceDeletion_18 12 rfl rfl)
theorem dJ40_balanceDeletion_432 : decode cJ40_balanceDeletion 432 = .ok (.getfield 39, 3) := dk_180 0 39 (dk_at dksJ40_balanceDeletion_18 13 rfl rfl)
theorem dJ40_balanceDeletion_435 : decode cJ40_balanceDeletion 435 = .ok (.astore_n 3, 1) := dk_78 (dk_at dksJ40_balanceDeletion_18 16 rfl rfl)
theorem dJ40_balanceDeletion_436 : decode cJ40_balanceDeletion 436 = .ok (.aload_n 3, 1) := dk_45 (dk_at dksJ40_balanceDeletion_18 17 rfl rfl)
theorem dJ40_balanceDeletion_437 : decode cJ40_balanceDeletion 437 = .ok (.ifnull 35, 3) := dk_198 0 35 (dk_at dksJ40_balanceDeletion_18 18 rfl rfl)
theorem dJ40_balanceDeletion_440 : decode cJ40_balanceDeletion 440 = .ok (.aload_n 3, 1) := dk_45 (dk_at dksJ40_balanceDeletion_18 21 rfl rfl)
theorem dJ40_balanceDeletion_441 : decode cJ40_balanceDeletion 441 = .ok (.aload_n 2, 1) := dk_44 (dk_at dksJ40_balanceDeletion_18 22 rfl rfl)
theorem dJ40_balanceDeletion_442 : decode cJ40_balanceDeletion 442 = .ok (.ifnonnull 7, 3) := dk_199 0 7 (dk_at dksJ40_balanceDeletion_19 0 rfl rfl)
theorem dJ40_balanceDeletion_445 : decode cJ40_balanceDeletion 445 = .ok (.iconst 0, 1) := dk_3 (dk_at dksJ40_balanceDeletion_19 3 rfl rfl)
theorem dJ40_balanceDeletion_446 : decode cJ40_balanceDeletion 446 = .ok (.goto 7, 3) := dk_167 0 7 (dk_at dksJ40_balanceDeletion_19 4 rfl rfl)
theorem dJ40_balanceDeletion_449 : decode cJ40_balanceDeletion 449 = .ok (.aload_n 2, 1) := dk_44 (dk_at dksJ40_balanceDeletion_19 7 rfl rfl)
theorem dJ40_balanceDeletion_450 : decode cJ40_balanceDeletion 450 = .ok (.getfield 93, 3) := dk_180 0 93 (dk_at dksJ40_balanceDeletion_19 8 rfl rfl)
theorem dJ40_balanceDeletion_453 : decode cJ40_balanceDeletion 453 = .ok (.putfield 93, 3) := dk_181 0 93 (dk_at dksJ40_balanceDeletion_19 11 rfl rfl)
theorem dJ40_balanceDeletion_456 : decode cJ40_balanceDeletion 456 = .ok (.aload_n 3, 1) := dk_45 (dk_at dksJ40_balanceDeletion_19 14 rfl rfl)
theorem dJ40_balanceDeletion_457 : decode cJ40_balanceDeletion 457 = .ok (.getfield 39, 3) := dk_180 0 39 (dk_at dksJ40_balanceDeletion_19 15 rfl rfl)
theorem dJ40_balanceDeletion_460 : decode cJ40_balanceDeletion 460 = .ok (.dup, 1) := dk_89 (dk_at dksJ40_balanceDeletion_19 18 rfl rfl)
theorem dJ40_balanceDeletion_461 : decode cJ40_balanceDeletion 461 = .ok (.astore 5, 2) := dk_58 5 (dk_at dksJ40_balanceDeletion_19 19 rfl rfl)
theorem dJ40_balanceDeletion_463 : decode cJ40_balanceDeletion 463 = .ok (.ifnull 9, 3) := dk_198 0 9 (dk_at dksJ40_balanceDeletion_19 21 rfl rfl)
theorem dJ40_balanceDeletion_466 : decode cJ40_balanceDeletion 466 = .ok (.aload 5, 2) := dk_25 5 (dk_at dksJ40_balanceDeletion_20 0 rfl rfl)
theorem dJ40_balanceDeletion_468 : decode cJ40_balanceDeletion 468 = .ok (.iconst 0, 1) := dk_3 (dk_at dksJ40_balanceDeletion_20 2 rfl rfl)
theorem dJ40_balanceDeletion_469 : decode cJ40_balanceDeletion 469 = .ok (.putfield 93, 3) := dk_181 0 93 (dk_at dksJ40_balanceDeletion_20 3 rfl rfl)
theorem dJ40_balanceDeletion_472 : decode cJ40_balanceDeletion 472 = .ok (.aload_n 2, 1) := dk_44 (dk_at dksJ40_balanceDeletion_20 6 rfl rfl)
theorem dJ40_balanceDeletion_473 : decode cJ40_balanceDeletion 473 = .ok (.ifnull 14, 3) := dk_198 0 14 (dk_at dksJ40_balanceDeletion_20 7 rfl rfl)
theorem dJ40_balanceDeletion_476 : decode cJ40_balanceDeletion 476 = .ok (.aload_n 2, 1) := dk_44 (dk_at dksJ40_balanceDeletion_20 10 rfl rfl)
theorem dJ40_balanceDeletion_477 : decode cJ40_balanceDeletion 477 = .ok (.iconst 0, 1) := dk_3 (dk_at dksJ40_balanceDeletion_20 11 rfl rfl)
theorem dJ40_balanceDeletion_478 : decode cJ40_balanceDeletion 478 = .ok (.putfield 93, 3) := dk_181 0 93 (dk_at dksJ40_balanceDeletion_20 12 rfl rfl)
theorem dJ40_balanceDeletion_481 : decode cJ40_balanceDeletion 481 = .ok (.aload_n 0, 1) := dk_42 (dk_at dksJ40_balanceDeletion_20 15 rfl rfl)
theorem dJ40_balanceDeletion_482 : decode cJ40_balanceDeletion 482 = .ok (.aload_n 2, 1) := dk_44 (dk_at dksJ40_balanceDeletion_20 16 rfl rfl)
theorem dJ40_balanceDeletion_483 : decode cJ40_balanceDeletion 483 = .ok (.invokestatic 133, 3) := dk_184 0 133 (dk_at dksJ40_balanceDeletion_20 17 rfl rfl)
theorem dJ40_balanceDeletion_486 : decode cJ40_balanceDeletion 486 = .ok (.astore_n 0, 1) := dk_75 (dk_at dksJ40_balanceDeletion_20 20 rfl rfl)
theorem dJ40_balanceDeletion_487 : decode cJ40_balanceDeletion 487 = .ok (.aload_n 0, 1) := dk_42 (dk_at dksJ40_balanceDeletion_20 21 rfl rfl)
theorem dJ40_balanceDeletion_488 : decode cJ40_balanceDeletion 488 = .ok (.astore_n 1, 1) := dk_76 (dk_at dksJ40_balanceDeletion_20 22 rfl rfl)
theorem dJ40_balanceDeletion_489 : decode cJ40_balanceDeletion 489 = .ok (.goto (-489), 3) := dk_167 254 23 (dk_at dksJ40_balanceDeletion_21 0 rfl rfl)
theorem q131 : (Jvm.Cond.initialized "java/util/HashMap$TreeNode") ∈ lw_all := lw_g (lw_at lw_m1 55 rfl) rfl
theorem q772 : (Jvm.Cond.selects "java/util/HashMap$TreeNode" ({ cls := "java/lang/Object", name := "getClass", desc := "()Ljava/lang/Class;" } : Jvm.MethodName) ({ cls := "java/lang/Object", name := "getClass", desc := "()Ljava/lang/Class;" } : Jvm.MethodName)) ∈ lw_all := lw_g (lw_at lw_m3 216 rfl) rfl
theorem q1410 : (Jvm.Cond.instanceMethod ({ cls := "java/util/HashMap$TreeNode", name := "getTreeNode", desc := "(ILjava/lang/Object;)Ljava/util/HashMap$TreeNode;" } : Jvm.MethodName)) ∈ lw_all := lw_g (lw_at lw_m6 134 rfl) rfl
theorem q1411 : (Jvm.Cond.selects "java/util/HashMap$TreeNode" ({ cls := "java/util/HashMap$TreeNode", name := "getTreeNode", desc := "(ILjava/lang/Object;)Ljava/util/HashMap$TreeNode;" } : Jvm.MethodName) ({ cls := "java/util/HashMap$TreeNode", name := "getTreeNode", desc := "(ILjava/lang/Object;)Ljava/util/HashMap$TreeNode;" } : Jvm.MethodName)) ∈ lw_all := lw_g (lw_at lw_m6 135 rfl) rfl
theorem q1412 : (Jvm.Cond.code ({ cls := "java/util/HashMap$TreeNode", name := "getTreeNode", desc := "(ILjava/lang/Object;)Ljava/util/HashMap$TreeNode;" } : Jvm.MethodName) prog_70_method_5_code (3 : Nat) (Option.some (Jvm.ClassFile.FieldType.object "java/util/HashMap$TreeNode"))) ∈ lw_all := lw_g (lw_at lw_m6 136 rfl) rfl
theorem q1413 : (Jvm.Cond.methodLink "java/util/HashMap$TreeNode" (67 : Nat) ({ cls := "java/util/HashMap$TreeNode", name := "root", desc := "()Ljava/util/HashMap$TreeNode;" } : Jvm.MethodName)) ∈ lw_all := lw_g (lw_at lw_m6 137 rfl) rfl
theorem q1414 : (Jvm.Cond.instanceMethod ({ cls := "java/util/HashMap$TreeNode", name := "root", desc := "()Ljava/util/HashMap$TreeNode;" } : Jvm.MethodName)) ∈ lw_all := lw_g (lw_at lw_m6 138 rfl) rfl
theorem q1415 : (Jvm.Cond.selects "java/util/HashMap$TreeNode" ({ cls := "java/util/HashMap$TreeNode", name := "root", desc := "()Ljava/util/HashMap$TreeNode;" } : Jvm.MethodName) ({ cls := "java/util/HashMap$TreeNode", name := "root", desc := "()Ljava/util/HashMap$TreeNode;" } : Jvm.MethodName)) ∈ lw_all := lw_g (lw_at lw_m6 139 rfl) rfl
theorem q1416 : (Jvm.Cond.code ({ cls := "java/util/HashMap$TreeNode", name := "root", desc := "()Ljava/util/HashMap$TreeNode;" } : Jvm.MethodName) prog_70_method_2_code (3 : Nat) (Option.some (Jvm.ClassFile.FieldType.object "java/util/HashMap$TreeNode"))) ∈ lw_all := lw_g (lw_at lw_m6 140 rfl) rfl
theorem q1417 : (Jvm.Cond.methodLink "java/util/HashMap$TreeNode" (63 : Nat) ({ cls := "java/util/HashMap$TreeNode", name := "find", desc := "(ILjava/lang/Object;Ljava/lang/Class;)Ljava/util/HashMap$TreeNode;" } : Jvm.MethodName)) ∈ lw_all := lw_g (lw_at lw_m6 141 rfl) rfl
theorem q1418 : (Jvm.Cond.instanceMethod ({ cls := "java/util/HashMap$TreeNode", name := "find", desc := "(ILjava/lang/Object;Ljava/lang/Class;)Ljava/util/HashMap$TreeNode;" } : Jvm.MethodName)) ∈ lw_all := lw_g (lw_at lw_m6 142 rfl) rfl
theorem q1419 : (Jvm.Cond.selects "java/util/HashMap$TreeNode" ({ cls := "java/util/HashMap$TreeNode", name := "find", desc := "(ILjava/lang/Object;Ljava/lang/Class;)Ljava/util/HashMap$TreeNode;" } : Jvm.MethodName) ({ cls := "java/util/HashMap$TreeNode", name := "find", desc := "(ILjava/lang/Object;Ljava/lang/Class;)Ljava/util/HashMap$TreeNode;" } : Jvm.MethodName)) ∈ lw_all := lw_g (lw_at lw_m6 143 rfl) rfl
theorem q1420 : (Jvm.Cond.code ({ cls := "java/util/HashMap$TreeNode", name := "find", desc := "(ILjava/lang/Object;Ljava/lang/Class;)Ljava/util/HashMap$TreeNode;" } : Jvm.MethodName) prog_70_method_4_code (11 : Nat) (Option.some (Jvm.ClassFile.FieldType.object "java/util/HashMap$TreeNode"))) ∈ lw_all := lw_g (lw_at lw_m6 144 rfl) rfl
theorem q1421 : (Jvm.Cond.methodLink "java/util/HashMap$TreeNode" (49 : Nat) ({ cls := "java/lang/Object", name := "equals", desc := "(Ljava/lang/Object;)Z" } : Jvm.MethodName)) ∈ lw_all := lw_g (lw_at lw_m6 145 rfl) rfl
theorem q1422 : (Jvm.Cond.methodLink "java/util/HashMap$TreeNode" (55 : Nat) ({ cls := "java/util/HashMap", name := "comparableClassFor", desc := "(Ljava/lang/Object;)Ljava/lang/Class;" } : Jvm.MethodName)) ∈ lw_all := lw_g (lw_at lw_m6 146 rfl) rfl
theorem q1428 : (Jvm.Cond.methodLink "java/util/HashMap$TreeNode" (59 : Nat) ({ cls := "java/util/HashMap", name := "compareComparables", desc := "(Ljava/lang/Class;Ljava/lang/Object;Ljava/lang/Object;)I" } : Jvm.MethodName)) ∈ lw_all := lw_g (lw_at lw_m6 152 rfl) rfl
theorem q1659 : (Jvm.Cond.instanceMethod ({ cls := "java/util/HashMap$TreeNode", name := "split", desc := "(Ljava/util/HashMap;[Ljava/util/HashMap$Node;II)V" } : Jvm.MethodName)) ∈ lw_all := lw_g (lw_at lw_m7 143 rfl) rfl
theorem q1660 : (Jvm.Cond.selects "java/util/HashMap$TreeNode" ({ cls := "java/util/HashMap$TreeNode", name := "split", desc := "(Ljava/util/HashMap;[Ljava/util/HashMap$Node;II)V" } : Jvm.MethodName) ({ cls := "java/util/HashMap$TreeNode", name := "split", desc := "(Ljava/util/HashMap;[Ljava/util/HashMap$Node;II)V" } : Jvm.MethodName)) ∈ lw_all := lw_g (lw_at lw_m7 144 rfl) rfl
theorem q1661 : (Jvm.Cond.code ({ cls := "java/util/HashMap$TreeNode", name := "split", desc := "(Ljava/util/HashMap;[Ljava/util/HashMap$Node;II)V" } : Jvm.MethodName) prog_70_method_11_code (14 : Nat) (Option.none : Option Jvm.ClassFile.FieldType)) ∈ lw_all := lw_g (lw_at lw_m7 145 rfl) rfl
theorem q1662 : (Jvm.Cond.classLink "java/util/HashMap$TreeNode" (10 : Nat) "java/util/HashMap$TreeNode") ∈ lw_all := lw_g (lw_at lw_m7 146 rfl) rfl
theorem q1663 : (Jvm.Cond.methodLink "java/util/HashMap$TreeNode" (119 : Nat) ({ cls := "java/util/HashMap$TreeNode", name := "untreeify", desc := "(Ljava/util/HashMap;)Ljava/util/HashMap$Node;" } : Jvm.MethodName)) ∈ lw_all := lw_g (lw_at lw_m7 147 rfl) rfl
theorem q1664 : (Jvm.Cond.instanceMethod ({ cls := "java/util/HashMap$TreeNode", name := "untreeify", desc := "(Ljava/util/HashMap;)Ljava/util/HashMap$Node;" } : Jvm.MethodName)) ∈ lw_all := lw_g (lw_at lw_m7 148 rfl) rfl
theorem q1665 : (Jvm.Cond.selects "java/util/HashMap$TreeNode" ({ cls := "java/util/HashMap$TreeNode", name := "untreeify", desc := "(Ljava/util/HashMap;)Ljava/util/HashMap$Node;" } : Jvm.MethodName) ({ cls := "java/util/HashMap$TreeNode", name := "untreeify", desc := "(Ljava/util/HashMap;)Ljava/util/HashMap$Node;" } : Jvm.MethodName)) ∈ lw_all := lw_g (lw_at lw_m7 149 rfl) rfl
theorem q1666 : (Jvm.Cond.code ({ cls := "java/util/HashMap$TreeNode", name := "untreeify", desc := "(Ljava/util/HashMap;)Ljava/util/HashMap$Node;" } : Jvm.MethodName) prog_70_method_8_code (6 : Nat) (Option.some (Jvm.ClassFile.FieldType.object "java/util/HashMap$Node"))) ∈ lw_all := lw_g (lw_at lw_m7 150 rfl) rfl
theorem q1667 : (Jvm.Cond.methodLink "java/util/HashMap$TreeNode" (108 : Nat) ({ cls := "java/util/HashMap", name := "replacementNode", desc := "(Ljava/util/HashMap$Node;Ljava/util/HashMap$Node;)Ljava/util/HashMap$Node;" } : Jvm.MethodName)) ∈ lw_all := lw_g (lw_at lw_m7 151 rfl) rfl
theorem q1677 : (Jvm.Cond.fieldLink "java/util/HashMap$TreeNode" (15 : Nat) "java/util/HashMap$TreeNode" "hash" "I") ∈ lw_all := lw_g (lw_at lw_m7 161 rfl) rfl
theorem q1678 : (Jvm.Cond.sameField "java/util/HashMap$TreeNode" "java/util/HashMap$Node" "hash" "I") ∈ lw_all := lw_g (lw_at lw_m7 162 rfl) rfl
theorem q1682 : (Jvm.Cond.fieldLink "java/util/HashMap$TreeNode" (45 : Nat) "java/util/HashMap$TreeNode" "key" "Ljava/lang/Object;") ∈ lw_all := lw_g (lw_at lw_m7 166 rfl) rfl
theorem q1683 : (Jvm.Cond.sameField "java/util/HashMap$TreeNode" "java/util/HashMap$Node" "key" "Ljava/lang/Object;") ∈ lw_all := lw_g (lw_at lw_m7 167 rfl) rfl
theorem q1690 : (Jvm.Cond.fieldLink "java/util/HashMap$TreeNode" (22 : Nat) "java/util/HashMap$TreeNode" "next" "Ljava/util/HashMap$Node;") ∈ lw_all := lw_g (lw_at lw_m7 174 rfl) rfl
theorem q1691 : (Jvm.Cond.sameField "java/util/HashMap$TreeNode" "java/util/HashMap$Node" "next" "Ljava/util/HashMap$Node;") ∈ lw_all := lw_g (lw_at lw_m7 175 rfl) rfl
theorem q1692 : (Jvm.Cond.fieldLink "java/util/HashMap$TreeNode" (112 : Nat) "java/util/HashMap$Node" "next" "Ljava/util/HashMap$Node;") ∈ lw_all := lw_g (lw_at lw_m7 176 rfl) rfl
theorem q1704 : (Jvm.Cond.methodLink "java/util/HashMap$TreeNode" (126 : Nat) ({ cls := "java/util/HashMap$TreeNode", name := "treeify", desc := "([Ljava/util/HashMap$Node;)V" } : Jvm.MethodName)) ∈ lw_all := lw_g (lw_at lw_m7 188 rfl) rfl
theorem q1705 : (Jvm.Cond.instanceMethod ({ cls := "java/util/HashMap$TreeNode", name := "treeify", desc := "([Ljava/util/HashMap$Node;)V" } : Jvm.MethodName)) ∈ lw_all := lw_g (lw_at lw_m7 189 rfl) rfl
theorem q1706 : (Jvm.Cond.selects "java/util/HashMap$TreeNode" ({ cls := "java/util/HashMap$TreeNode", name := "treeify", desc := "([Ljava/util/HashMap$Node;)V" } : Jvm.MethodName) ({ cls := "java/util/HashMap$TreeNode", name := "treeify", desc := "([Ljava/util/HashMap$Node;)V" } : Jvm.MethodName)) ∈ lw_all := lw_g (lw_at lw_m7 190 rfl) rfl
theorem q1707 : (Jvm.Cond.code ({ cls := "java/util/HashMap$TreeNode", name := "treeify", desc := "([Ljava/util/HashMap$Node;)V" } : Jvm.MethodName) prog_70_method_7_code (13 : Nat) (Option.none : Option Jvm.ClassFile.FieldType)) ∈ lw_all := lw_g (lw_at lw_m7 191 rfl) rfl
theorem q1708 : (Jvm.Cond.methodLink "java/util/HashMap$TreeNode" (100 : Nat) ({ cls := "java/util/HashMap$TreeNode", name := "balanceInsertion", desc := "(Ljava/util/HashMap$TreeNode;Ljava/util/HashMap$TreeNode;)Ljava/util/HashMap$TreeNode;" } : Jvm.MethodName)) ∈ lw_all := lw_g (lw_at lw_m7 192 rfl) rfl
theorem q1709 : (Jvm.Cond.static ({ cls := "java/util/HashMap$TreeNode", name := "balanceInsertion", desc := "(Ljava/util/HashMap$TreeNode;Ljava/util/HashMap$TreeNode;)Ljava/util/HashMap$TreeNode;" } : Jvm.MethodName)) ∈ lw_all := lw_g (lw_at lw_m7 193 rfl) rfl
theorem q1710 : (Jvm.Cond.code ({ cls := "java/util/HashMap$TreeNode", name := "balanceInsertion", desc := "(Ljava/util/HashMap$TreeNode;Ljava/util/HashMap$TreeNode;)Ljava/util/HashMap$TreeNode;" } : Jvm.MethodName) prog_70_method_14_code (6 : Nat) (Option.some (Jvm.ClassFile.FieldType.object "java/util/HashMap$TreeNode"))) ∈ lw_all := lw_g (lw_at lw_m7 194 rfl) rfl
theorem q1711 : (Jvm.Cond.methodLink "java/util/HashMap$TreeNode" (130 : Nat) ({ cls := "java/util/HashMap$TreeNode", name := "rotateLeft", desc := "(Ljava/util/HashMap$TreeNode;Ljava/util/HashMap$TreeNode;)Ljava/util/HashMap$TreeNode;" } : Jvm.MethodName)) ∈ lw_all := lw_g (lw_at lw_m7 195 rfl) rfl
theorem q1712 : (Jvm.Cond.static ({ cls := "java/util/HashMap$TreeNode", name := "rotateLeft", desc := "(Ljava/util/HashMap$TreeNode;Ljava/util/HashMap$TreeNode;)Ljava/util/HashMap$TreeNode;" } : Jvm.MethodName)) ∈ lw_all := lw_g (lw_at lw_m7 196 rfl) rfl
theorem q1713 : (Jvm.Cond.code ({ cls := "java/util/HashMap$TreeNode", name := "rotateLeft", desc := "(Ljava/util/HashMap$TreeNode;Ljava/util/HashMap$TreeNode;)Ljava/util/HashMap$TreeNode;" } : Jvm.MethodName) prog_70_method_12_code (5 : Nat) (Option.some (Jvm.ClassFile.FieldType.object "java/util/HashMap$TreeNode"))) ∈ lw_all := lw_g (lw_at lw_m7 197 rfl) rfl
theorem q1714 : (Jvm.Cond.methodLink "java/util/HashMap$TreeNode" (133 : Nat) ({ cls := "java/util/HashMap$TreeNode", name := "rotateRight", desc := "(Ljava/util/HashMap$TreeNode;Ljava/util/HashMap$TreeNode;)Ljava/util/HashMap$TreeNode;" } : Jvm.MethodName)) ∈ lw_all := lw_g (lw_at lw_m7 198 rfl) rfl
theorem q1715 : (Jvm.Cond.static ({ cls := "java/util/HashMap$TreeNode", name := "rotateRight", desc := "(Ljava/util/HashMap$TreeNode;Ljava/util/HashMap$TreeNode;)Ljava/util/HashMap$TreeNode;" } : Jvm.MethodName)) ∈ lw_all := lw_g (lw_at lw_m7 199 rfl) rfl
theorem q1716 : (Jvm.Cond.code ({ cls := "java/util/HashMap$TreeNode", name := "rotateRight", desc := "(Ljava/util/HashMap$TreeNode;Ljava/util/HashMap$TreeNode;)Ljava/util/HashMap$TreeNode;" } : Jvm.MethodName) prog_70_method_13_code (5 : Nat) (Option.some (Jvm.ClassFile.FieldType.object "java/util/HashMap$TreeNode"))) ∈ lw_all := lw_g (lw_at lw_m7 200 rfl) rfl
theorem q1717 : (Jvm.Cond.methodLink "java/util/HashMap$TreeNode" (104 : Nat) ({ cls := "java/util/HashMap$TreeNode", name := "moveRootToFront", desc := "([Ljava/util/HashMap$Node;Ljava/util/HashMap$TreeNode;)V" } : Jvm.MethodName)) ∈ lw_all := lw_g (lw_at lw_m7 201 rfl) rfl
theorem q1718 : (Jvm.Cond.static ({ cls := "java/util/HashMap$TreeNode", name := "moveRootToFront", desc := "([Ljava/util/HashMap$Node;Ljava/util/HashMap$TreeNode;)V" } : Jvm.MethodName)) ∈ lw_all := lw_g (lw_at lw_m7 202 rfl) rfl
theorem q1719 : (Jvm.Cond.code ({ cls := "java/util/HashMap$TreeNode", name := "moveRootToFront", desc := "([Ljava/util/HashMap$Node;Ljava/util/HashMap$TreeNode;)V" } : Jvm.MethodName) prog_70_method_3_code (7 : Nat) (Option.none : Option Jvm.ClassFile.FieldType)) ∈ lw_all := lw_g (lw_at lw_m7 203 rfl) rfl
theorem q1720 : (Jvm.Cond.fieldLink "java/util/HashMap$TreeNode" (26 : Nat) "java/util/HashMap$TreeNode" "$assertionsDisabled" "Z") ∈ lw_all := lw_g (lw_at lw_m7 204 rfl) rfl
theorem q1721 : (Jvm.Cond.laysStatic "java/util/HashMap$TreeNode" "$assertionsDisabled" "Z") ∈ lw_tbl := lw_at lw_m7 205 rfl
theorem q1727 : (Jvm.Cond.instanceMethod ({ cls := "java/util/HashMap$TreeNode", name := "putTreeVal", desc := "(Ljava/util/HashMap;[Ljava/util/HashMap$Node;ILjava/lang/Object;Ljava/lang/Object;)Ljava/util/HashMap$TreeNode;" } : Jvm.MethodName)) ∈ lw_all := lw_g (lw_at lw_m7 211 rfl) rfl
theorem q1728 : (Jvm.Cond.selects "java/util/HashMap$TreeNode" ({ cls := "java/util/HashMap$TreeNode", name := "putTreeVal", desc := "(Ljava/util/HashMap;[Ljava/util/HashMap$Node;ILjava/lang/Object;Ljava/lang/Object;)Ljava/util/HashMap$TreeNode;" } : Jvm.MethodName) ({ cls := "java/util/HashMap$TreeNode", name := "putTreeVal", desc := "(Ljava/util/HashMap;[Ljava/util/HashMap$Node;ILjava/lang/Object;Ljava/lang/Object;)Ljava/util/HashMap$TreeNode;" } : Jvm.MethodName)) ∈ lw_all := lw_g (lw_at lw_m7 212 rfl) rfl
theorem q1729 : (Jvm.Cond.code ({ cls := "java/util/HashMap$TreeNode", name := "putTreeVal", desc := "(Ljava/util/HashMap;[Ljava/util/HashMap$Node;ILjava/lang/Object;Ljava/lang/Object;)Ljava/util/HashMap$TreeNode;" } : Jvm.MethodName) prog_70_method_9_code (16 : Nat) (Option.some (Jvm.ClassFile.FieldType.object "java/util/HashMap$TreeNode"))) ∈ lw_all := lw_g (lw_at lw_m7 213 rfl) rfl
theorem q1730 : (Jvm.Cond.methodLink "java/util/HashMap$TreeNode" (115 : Nat) ({ cls := "java/util/HashMap", name := "newTreeNode", desc := "(ILjava/lang/Object;Ljava/lang/Object;Ljava/util/HashMap$Node;)Ljava/util/HashMap$TreeNode;" } : Jvm.MethodName)) ∈ lw_all := lw_g (lw_at lw_m7 214 rfl) rfl
theorem q1734 : (Jvm.Cond.instantiable "java/util/HashMap$TreeNode" (11 : Nat)) ∈ lw_all := lw_g (lw_at lw_m7 218 rfl) rfl
theorem q1736 : (Jvm.Cond.instanceMethod ({ cls := "java/util/HashMap$TreeNode", name := "<init>", desc := "(ILjava/lang/Object;Ljava/lang/Object;Ljava/util/HashMap$Node;)V" } : Jvm.MethodName)) ∈ lw_all := lw_g (lw_at lw_m7 220 rfl) rfl
theorem q1737 : (Jvm.Cond.code ({ cls := "java/util/HashMap$TreeNode", name := "<init>", desc := "(ILjava/lang/Object;Ljava/lang/Object;Ljava/util/HashMap$Node;)V" } : Jvm.MethodName) prog_70_method_1_code (5 : Nat) (Option.none : Option Jvm.ClassFile.FieldType)) ∈ lw_all := lw_g (lw_at lw_m7 221 rfl) rfl
theorem q1738 : (Jvm.Cond.methodLink "java/util/HashMap$TreeNode" (3 : Nat) ({ cls := "java/util/LinkedHashMap$Entry", name := "<init>", desc := "(ILjava/lang/Object;Ljava/lang/Object;Ljava/util/HashMap$Node;)V" } : Jvm.MethodName)) ∈ lw_all := lw_g (lw_at lw_m7 222 rfl) rfl
theorem q1742 : (Jvm.Cond.fieldLink "java/util/HashMap$TreeNode" (9 : Nat) "java/util/HashMap$TreeNode" "parent" "Ljava/util/HashMap$TreeNode;") ∈ lw_all := lw_g (lw_at lw_m7 226 rfl) rfl
theorem q1743 : (Jvm.Cond.fieldLink "java/util/HashMap$TreeNode" (39 : Nat) "java/util/HashMap$TreeNode" "left" "Ljava/util/HashMap$TreeNode;") ∈ lw_all := lw_g (lw_at lw_m7 227 rfl) rfl
theorem q1744 : (Jvm.Cond.fieldLink "java/util/HashMap$TreeNode" (42 : Nat) "java/util/HashMap$TreeNode" "right" "Ljava/util/HashMap$TreeNode;") ∈ lw_all := lw_g (lw_at lw_m7 228 rfl) rfl
theorem q1745 : (Jvm.Cond.fieldLink "java/util/HashMap$TreeNode" (19 : Nat) "java/util/HashMap$TreeNode" "prev" "Ljava/util/HashMap$TreeNode;") ∈ lw_all := lw_g (lw_at lw_m7 229 rfl) rfl
theorem q1747 : (Jvm.Cond.fieldLink "java/util/HashMap$TreeNode" (93 : Nat) "java/util/HashMap$TreeNode" "red" "Z") ∈ lw_all := lw_g (lw_at lw_m7 231 rfl) rfl
theorem q1748 : (Jvm.Cond.lays "java/util/HashMap$TreeNode" "java/util/HashMap$TreeNode" "parent" "Ljava/util/HashMap$TreeNode;") ∈ lw_all := lw_g (lw_at lw_m7 232 rfl) rfl
theorem q1749 : (Jvm.Cond.soleField "java/util/HashMap$TreeNode" "parent") ∈ lw_all := lw_g (lw_at lw_m7 233 rfl) rfl
theorem q1750 : (Jvm.Cond.lays "java/util/HashMap$TreeNode" "java/util/HashMap$TreeNode" "left" "Ljava/util/HashMap$TreeNode;") ∈ lw_all := lw_g (lw_at lw_m7 234 rfl) rfl
theorem q1751 : (Jvm.Cond.soleField "java/util/HashMap$TreeNode" "left") ∈ lw_all := lw_g (lw_at lw_m7 235 rfl) rfl
theorem q1752 : (Jvm.Cond.lays "java/util/HashMap$TreeNode" "java/util/HashMap$TreeNode" "right" "Ljava/util/HashMap$TreeNode;") ∈ lw_all := lw_g (lw_at lw_m7 236 rfl) rfl
theorem q1753 : (Jvm.Cond.soleField "java/util/HashMap$TreeNode" "right") ∈ lw_all := lw_g (lw_at lw_m7 237 rfl) rfl
theorem q1754 : (Jvm.Cond.lays "java/util/HashMap$TreeNode" "java/util/HashMap$TreeNode" "prev" "Ljava/util/HashMap$TreeNode;") ∈ lw_all := lw_g (lw_at lw_m7 238 rfl) rfl
theorem q1755 : (Jvm.Cond.soleField "java/util/HashMap$TreeNode" "prev") ∈ lw_all := lw_g (lw_at lw_m7 239 rfl) rfl
theorem q1756 : (Jvm.Cond.lays "java/util/HashMap$TreeNode" "java/util/HashMap$TreeNode" "red" "Z") ∈ lw_all := lw_g (lw_at lw_m8 0 rfl) rfl
theorem q1757 : (Jvm.Cond.soleField "java/util/HashMap$TreeNode" "red") ∈ lw_all := lw_g (lw_at lw_m8 1 rfl) rfl
theorem q1758 : (Jvm.Cond.lays "java/util/HashMap$TreeNode" "java/util/LinkedHashMap$Entry" "before" "Ljava/util/LinkedHashMap$Entry;") ∈ lw_all := lw_g (lw_at lw_m8 2 rfl) rfl
theorem q1760 : (Jvm.Cond.lays "java/util/HashMap$TreeNode" "java/util/LinkedHashMap$Entry" "after" "Ljava/util/LinkedHashMap$Entry;") ∈ lw_all := lw_g (lw_at lw_m8 4 rfl) rfl
theorem q1762 : (Jvm.Cond.laysFinal "java/util/HashMap$TreeNode" "java/util/HashMap$Node" "hash" "I") ∈ lw_all := lw_g (lw_at lw_m8 6 rfl) rfl
theorem q1763 : (Jvm.Cond.laysFinal "java/util/HashMap$TreeNode" "java/util/HashMap$Node" "key" "Ljava/lang/Object;") ∈ lw_all := lw_g (lw_at lw_m8 7 rfl) rfl
theorem q1764 : (Jvm.Cond.lays "java/util/HashMap$TreeNode" "java/util/HashMap$Node" "value" "Ljava/lang/Object;") ∈ lw_all := lw_g (lw_at lw_m8 8 rfl) rfl
theorem q1765 : (Jvm.Cond.lays "java/util/HashMap$TreeNode" "java/util/HashMap$Node" "next" "Ljava/util/HashMap$Node;") ∈ lw_all := lw_g (lw_at lw_m8 9 rfl) rfl
theorem q1766 : (Jvm.Cond.superclass "java/util/HashMap$TreeNode" "java/util/LinkedHashMap$Entry") ∈ lw_all := lw_g (lw_at lw_m8 10 rfl) rfl
theorem q2288 : (Jvm.Cond.instanceMethod ({ cls := "java/util/HashMap$TreeNode", name := "removeTreeNode", desc := "(Ljava/util/HashMap;[Ljava/util/HashMap$Node;Z)V" } : Jvm.MethodName)) ∈ lw_all := lw_g (lw_at lw_m10 52 rfl) rfl
theorem q2289 : (Jvm.Cond.selects "java/util/HashMap$TreeNode" ({ cls := "java/util/HashMap$TreeNode", name := "removeTreeNode", desc := "(Ljava/util/HashMap;[Ljava/util/HashMap$Node;Z)V" } : Jvm.MethodName) ({ cls := "java/util/HashMap$TreeNode", name := "removeTreeNode", desc := "(Ljava/util/HashMap;[Ljava/util/HashMap$Node;Z)V" } : Jvm.MethodName)) ∈ lw_all := lw_g (lw_at lw_m10 53 rfl) rfl
theorem q2290 : (Jvm.Cond.code ({ cls := "java/util/HashMap$TreeNode", name := "removeTreeNode", desc := "(Ljava/util/HashMap;[Ljava/util/HashMap$Node;Z)V" } : Jvm.MethodName) prog_70_method_10_code (21 : Nat) (Option.none : Option Jvm.ClassFile.FieldType)) ∈ lw_all := lw_g (lw_at lw_m10 54 rfl) rfl
theorem q2291 : (Jvm.Cond.methodLink "java/util/HashMap$TreeNode" (123 : Nat) ({ cls := "java/util/HashMap$TreeNode", name := "balanceDeletion", desc := "(Ljava/util/HashMap$TreeNode;Ljava/util/HashMap$TreeNode;)Ljava/util/HashMap$TreeNode;" } : Jvm.MethodName)) ∈ lw_all := lw_g (lw_at lw_m10 55 rfl) rfl
theorem q2292 : (Jvm.Cond.static ({ cls := "java/util/HashMap$TreeNode", name := "balanceDeletion", desc := "(Ljava/util/HashMap$TreeNode;Ljava/util/HashMap$TreeNode;)Ljava/util/HashMap$TreeNode;" } : Jvm.MethodName)) ∈ lw_all := lw_g (lw_at lw_m10 56 rfl) rfl
theorem q2293 : (Jvm.Cond.code ({ cls := "java/util/HashMap$TreeNode", name := "balanceDeletion", desc := "(Ljava/util/HashMap$TreeNode;Ljava/util/HashMap$TreeNode;)Ljava/util/HashMap$TreeNode;" } : Jvm.MethodName) prog_70_method_15_code (7 : Nat) (Option.some (Jvm.ClassFile.FieldType.object "java/util/HashMap$TreeNode"))) ∈ lw_all := lw_g (lw_at lw_m10 57 rfl) rfl
theorem q2687 : (Jvm.Cond.castable "java/util/HashMap$TreeNode" "java/util/Map$Entry") ∈ lw_tbl := lw_at lw_m11 211 rfl
theorem q2688 : (Jvm.Cond.selects "java/util/HashMap$TreeNode" ({ cls := "java/util/Map$Entry", name := "getKey", desc := "()Ljava/lang/Object;" } : Jvm.MethodName) ({ cls := "java/util/HashMap$Node", name := "getKey", desc := "()Ljava/lang/Object;" } : Jvm.MethodName)) ∈ lw_all := lw_g (lw_at lw_m11 212 rfl) rfl
theorem q2689 : (Jvm.Cond.unhidden "java/util/HashMap$TreeNode" "getKey" "()Ljava/lang/Object;") ∈ lw_tbl := lw_at lw_m11 213 rfl
theorem q2705 : (Jvm.Cond.selects "java/util/HashMap$TreeNode" ({ cls := "java/util/Map$Entry", name := "getValue", desc := "()Ljava/lang/Object;" } : Jvm.MethodName) ({ cls := "java/util/HashMap$Node", name := "getValue", desc := "()Ljava/lang/Object;" } : Jvm.MethodName)) ∈ lw_all := lw_g (lw_at lw_m11 229 rfl) rfl
theorem q2706 : (Jvm.Cond.unhidden "java/util/HashMap$TreeNode" "getValue" "()Ljava/lang/Object;") ∈ lw_tbl := lw_at lw_m11 230 rfl
theorem q3707 : (Jvm.Cond.castable "java/util/HashMap$TreeNode" "java/lang/Object") ∈ lw_tbl := lw_at lw_m16 31 rfl
theorem q3727 : (Jvm.Cond.castable "java/util/HashMap$TreeNode" "java/util/HashMap$Node") ∈ lw_tbl := lw_at lw_m16 51 rfl
theorem in_J40 : ∀ w ∈ wsJ400, w ∈ lw_all := lw_in wsJ400 [1758, 1760, 1762, 1763, 1764, 1765, 1748, 1750, 1752, 1754, 1756] (by decide +kernel) (by decide +kernel)
/-! java/util/AbstractSet -/
def RJ41 : String := "java/util/AbstractSet"
abbrev cJ41_init : ByteArray := prog_57_method_1_code
def yJ41_init : MethodName := ⟨RJ41, "<init>", "()V"⟩
theorem dJ41_init_0 : decode cJ41_init 0 = .ok (.aload_n 0, 1) := by decide +kernel
theorem dJ41_init_1 : decode cJ41_init 1 = .ok (.invokespecial 1, 3) := by decide +kernel
theorem dJ41_init_4 : decode cJ41_init 4 = .ok (.return_, 1) := by decide +kernel
theorem q133 : (Jvm.Cond.initialized "java/util/AbstractSet") ∈ lw_all := lw_g (lw_at lw_m1 57 rfl) rfl
theorem q2222 : (Jvm.Cond.instanceMethod ({ cls := "java/util/AbstractSet", name := "<init>", desc := "()V" } : Jvm.MethodName)) ∈ lw_all := lw_g (lw_at lw_m9 226 rfl) rfl
theorem q2223 : (Jvm.Cond.code ({ cls := "java/util/AbstractSet", name := "<init>", desc := "()V" } : Jvm.MethodName) prog_57_method_1_code (1 : Nat) (Option.none : Option Jvm.ClassFile.FieldType)) ∈ lw_all := lw_g (lw_at lw_m9 227 rfl) rfl
theorem q2224 : (Jvm.Cond.methodLink "java/util/AbstractSet" (1 : Nat) ({ cls := "java/util/AbstractCollection", name := "<init>", desc := "()V" } : Jvm.MethodName)) ∈ lw_all := lw_g (lw_at lw_m9 228 rfl) rfl
