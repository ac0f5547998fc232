set_option maxRecDepth 100000
/-! KeygroveModel -/
def RX3 : String := "KeygroveModel"
def TX3 : u_T := fun k => match k with
  | 0 => ("KeygroveModel", "secrets", "Ljava/util/ArrayList;", true)
  | 1 => ("KeygroveModel", "sent", "Ljava/util/ArrayList;", true)
  | 2 => ("KeygroveModel", "packs", "Ljava/util/ArrayList;", true)
  | 3 => ("KeygroveModel", "persons", "Ljava/util/ArrayList;", true)
  | 4 => ("KeygroveModel", "proposals", "Ljava/util/ArrayList;", true)
  | 5 => ("KeygroveModel", "epochs", "Ljava/util/ArrayList;", true)
  | 6 => ("KeygroveModel", "messages", "Ljava/util/ArrayList;", true)
  | 7 => ("KeygroveModel", "stolen", "Ljava/util/ArrayList;", true)
  | 8 => ("KeygroveModel", "thrown", "I", false)
  | 9 => ("KeygroveModel", "z", "I", false)
  | 10 => ("KeygroveModel", "boxes", "I", false)
  | _ => ("KeygroveModel", "commits", "I", false)
def tyX3 : Nat → FieldType := fun k => match k with
  | 0 => .object "java/util/ArrayList"
  | 1 => .object "java/util/ArrayList"
  | 2 => .object "java/util/ArrayList"
  | 3 => .object "java/util/ArrayList"
  | 4 => .object "java/util/ArrayList"
  | 5 => .object "java/util/ArrayList"
  | 6 => .object "java/util/ArrayList"
  | 7 => .object "java/util/ArrayList"
  | 8 => .int
  | 9 => .int
  | 10 => .int
  | _ => .int
abbrev wsX30 : List Cond := u_ws RX3 TX3 12
theorem nmX3 : ∀ a, a < 12 → ∀ b, b < 12 → a ≠ b → (TX3 a).2.1 ≠ (TX3 b).2.1 := by decide +kernel
theorem tyX3_ok : ∀ k, k < 12 → parseFieldDescriptor (TX3 k).2.2.1 = some (tyX3 k) := by decide +kernel
abbrev cX3_init : ByteArray := prog_15_method_1_code
def yX3_init : MethodName := ⟨RX3, "<init>", "()V"⟩
def dkwX3_init_4 : List UInt8 := [181, 0, 34, 42, 4, 181, 0, 37, 177]
abbrev dktX3_init_4 : List UInt8 := dkwX3_init_4 ++ []
def dkwX3_init_3 : List UInt8 := [181, 0, 28, 42, 187, 0, 7, 89, 183, 0, 9, 181, 0, 31, 42, 187, 0, 7, 89, 183, 0, 9]
abbrev dktX3_init_3 : List UInt8 := dkwX3_init_3 ++ dktX3_init_4
def dkwX3_init_2 : List UInt8 := [181, 0, 22, 42, 187, 0, 7, 89, 183, 0, 9, 181, 0, 25, 42, 187, 0, 7, 89, 183, 0, 9]
abbrev dktX3_init_2 : List UInt8 := dkwX3_init_2 ++ dktX3_init_3
def dkwX3_init_1 : List UInt8 := [181, 0, 16, 42, 187, 0, 7, 89, 183, 0, 9, 181, 0, 19, 42, 187, 0, 7, 89, 183, 0, 9]
abbrev dktX3_init_1 : List UInt8 := dkwX3_init_1 ++ dktX3_init_2
def dkwX3_init_0 : List UInt8 := [42, 183, 0, 1, 42, 187, 0, 7, 89, 183, 0, 9, 181, 0, 10, 42, 187, 0, 7, 89, 183, 0, 9]
abbrev dktX3_init_0 : List UInt8 := dkwX3_init_0 ++ dktX3_init_1
theorem dksX3_init_0 : cX3_init.data.toList.drop 0 = dktX3_init_0 := by decide +kernel
theorem dksX3_init_1 : cX3_init.data.toList.drop 23 = dktX3_init_1 := dk_seg dksX3_init_0 23 rfl rfl
theorem dksX3_init_2 : cX3_init.data.toList.drop 45 = dktX3_init_2 := dk_seg dksX3_init_1 22 rfl rfl
theorem dksX3_init_3 : cX3_init.data.toList.drop 67 = dktX3_init_3 := dk_seg dksX3_init_2 22 rfl rfl
theorem dksX3_init_4 : cX3_init.data.toList.drop 89 = dktX3_init_4 := dk_seg dksX3_init_3 22 rfl rfl
theorem dX3_init_0 : decode cX3_init 0 = .ok (.aload_n 0, 1) := dk_42 (dk_at dksX3_init_0 0 rfl rfl)
theorem dX3_init_1 : decode cX3_init 1 = .ok (.invokespecial 1, 3) := dk_183 0 1 (dk_at dksX3_init_0 1 rfl rfl)
theorem dX3_init_4 : decode cX3_init 4 = .ok (.aload_n 0, 1) := dk_42 (dk_at dksX3_init_0 4 rfl rfl)
theorem dX3_init_5 : decode cX3_init 5 = .ok (.new 7, 3) := dk_187 0 7 (dk_at dksX3_init_0 5 rfl rfl)
theorem dX3_init_8 : decode cX3_init 8 = .ok (.dup, 1) := dk_89 (dk_at dksX3_init_0 8 rfl rfl)
theorem dX3_init_9 : decode cX3_init 9 = .ok (.invokespecial 9, 3) := dk_183 0 9 (dk_at dksX3_init_0 9 rfl rfl)
theorem dX3_init_12 : decode cX3_init 12 = .ok (.putfield 10, 3) := dk_181 0 10 (dk_at dksX3_init_0 12 rfl rfl)
theorem dX3_init_15 : decode cX3_init 15 = .ok (.aload_n 0, 1) := dk_42 (dk_at dksX3_init_0 15 rfl rfl)
theorem dX3_init_16 : decode cX3_init 16 = .ok (.new 7, 3) := dk_187 0 7 (dk_at dksX3_init_0 16 rfl rfl)
theorem dX3_init_19 : decode cX3_init 19 = .ok (.dup, 1) := dk_89 (dk_at dksX3_init_0 19 rfl rfl)
theorem dX3_init_20 : decode cX3_init 20 = .ok (.invokespecial 9, 3) := dk_183 0 9 (dk_at dksX3_init_0 20 rfl rfl)
theorem dX3_init_23 : decode cX3_init 23 = .ok (.putfield 16, 3) := dk_181 0 16 (dk_at dksX3_init_1 0 rfl rfl)
theorem dX3_init_26 : decode cX3_init 26 = .ok (.aload_n 0, 1) := dk_42 (dk_at dksX3_init_1 3 rfl rfl)
theorem dX3_init_27 : decode cX3_init 27 = .ok (.new 7, 3) := dk_187 0 7 (dk_at dksX3_init_1 4 rfl rfl)
theorem dX3_init_30 : decode cX3_init 30 = .ok (.dup, 1) := dk_89 (dk_at dksX3_init_1 7 rfl rfl)
theorem dX3_init_31 : decode cX3_init 31 = .ok (.invokespecial 9, 3) := dk_183 0 9 (dk_at dksX3_init_1 8 rfl rfl)
theorem dX3_init_34 : decode cX3_init 34 = .ok (.putfield 19, 3) := dk_181 0 19 (dk_at dksX3_init_1 11 rfl rfl)
theorem dX3_init_37 : decode cX3_init 37 = .ok (.aload_n 0, 1) := dk_42 (dk_at dksX3_init_1 14 rfl rfl)
theorem dX3_init_38 : decode cX3_init 38 = .ok (.new 7, 3) := dk_187 0 7 (dk_at dksX3_init_1 15 rfl rfl)
theorem dX3_init_41 : decode cX3_init 41 = .ok (.dup, 1) := dk_89 (dk_at dksX3_init_1 18 rfl rfl)
theorem dX3_init_42 : decode cX3_init 42 = .ok (.invokespecial 9, 3) := dk_183 0 9 (dk_at dksX3_init_1 19 rfl rfl)
theorem dX3_init_45 : decode cX3_init 45 = .ok (.putfield 22, 3) := dk_181 0 22 (dk_at dksX3_init_2 0 rfl rfl)
theorem dX3_init_48 : decode cX3_init 48 = .ok (.aload_n 0, 1) := dk_42 (dk_at dksX3_init_2 3 rfl rfl)
theorem dX3_init_49 : decode cX3_init 49 = .ok (.new 7, 3) := dk_187 0 7 (dk_at dksX3_init_2 4 rfl rfl)
theorem dX3_init_52 : decode cX3_init 52 = .ok (.dup, 1) := dk_89 (dk_at dksX3_init_2 7 rfl rfl)
theorem dX3_init_53 : decode cX3_init 53 = .ok (.invokespecial 9, 3) := dk_183 0 9 (dk_at dksX3_init_2 8 rfl rfl)
theorem dX3_init_56 : decode cX3_init 56 = .ok (.putfield 25, 3) := dk_181 0 25 (dk_at dksX3_init_2 11 rfl rfl)
theorem dX3_init_59 : decode cX3_init 59 = .ok (.aload_n 0, 1) := dk_42 (dk_at dksX3_init_2 14 rfl rfl)
theorem dX3_init_60 : decode cX3_init 60 = .ok (.new 7, 3) := dk_187 0 7 (dk_at dksX3_init_2 15 rfl rfl)
theorem dX3_init_63 : decode cX3_init 63 = .ok (.dup, 1) := dk_89 (dk_at dksX3_init_2 18 rfl rfl)
theorem dX3_init_64 : decode cX3_init 64 = .ok (.invokespecial 9, 3) := dk_183 0 9 (dk_at dksX3_init_2 19 rfl rfl)
theorem dX3_init_67 : decode cX3_init 67 = .ok (.putfield 28, 3) := dk_181 0 28 (dk_at dksX3_init_3 0 rfl rfl)
theorem dX3_init_70 : decode cX3_init 70 = .ok (.aload_n 0, 1) := dk_42 (dk_at dksX3_init_3 3 rfl rfl)
theorem dX3_init_71 : decode cX3_init 71 = .ok (.new 7, 3) := dk_187 0 7 (dk_at dksX3_init_3 4 rfl rfl)
theorem dX3_init_74 : decode cX3_init 74 = .ok (.dup, 1) := dk_89 (dk_at dksX3_init_3 7 rfl rfl)
theorem dX3_init_75 : decode cX3_init 75 = .ok (.invokespecial 9, 3) := dk_183 0 9 (dk_at dksX3_init_3 8 rfl rfl)
theorem dX3_init_78 : decode cX3_init 78 = .ok (.putfield 31, 3) := dk_181 0 31 (dk_at dksX3_init_3 11 rfl rfl)
theorem dX3_init_81 : decode cX3_init 81 = .ok (.aload_n 0, 1) := dk_42 (dk_at dksX3_init_3 14 rfl rfl)
theorem dX3_init_82 : decode cX3_init 82 = .ok (.new 7, 3) := dk_187 0 7 (dk_at dksX3_init_3 15 rfl rfl)
theorem dX3_init_85 : decode cX3_init 85 = .ok (.dup, 1) := dk_89 (dk_at dksX3_init_3 18 rfl rfl)
theorem dX3_init_86 : decode cX3_init 86 = .ok (.invokespecial 9, 3) := dk_183 0 9 (dk_at dksX3_init_3 19 rfl rfl)
theorem dX3_init_89 : decode cX3_init 89 = .ok (.putfield 34, 3) := dk_181 0 34 (dk_at dksX3_init_4 0 rfl rfl)
theorem dX3_init_92 : decode cX3_init 92 = .ok (.aload_n 0, 1) := dk_42 (dk_at dksX3_init_4 3 rfl rfl)
theorem dX3_init_93 : decode cX3_init 93 = .ok (.iconst 1, 1) := dk_4 (dk_at dksX3_init_4 4 rfl rfl)
theorem dX3_init_94 : decode cX3_init 94 = .ok (.putfield 37, 3) := dk_181 0 37 (dk_at dksX3_init_4 5 rfl rfl)
theorem dX3_init_97 : decode cX3_init 97 = .ok (.return_, 1) := dk_177 (dk_at dksX3_init_4 8 rfl rfl)
abbrev cX3_thrown : ByteArray := prog_15_method_2_code
def yX3_thrown : MethodName := ⟨RX3, "thrown", "()I"⟩
theorem dX3_thrown_0 : decode cX3_thrown 0 = .ok (.aload_n 0, 1) := by decide +kernel
theorem dX3_thrown_1 : decode cX3_thrown 1 = .ok (.getfield 41, 3) := by decide +kernel
theorem dX3_thrown_4 : decode cX3_thrown 4 = .ok (.ireturn, 1) := by decide +kernel
abbrev cX3_person : ByteArray := prog_15_method_25_code
def yX3_person : MethodName := ⟨RX3, "person", "()I"⟩
def dkwX3_person_2 : List UInt8 := [42, 180, 0, 22, 182, 0, 56, 4, 100, 172]
abbrev dktX3_person_2 : List UInt8 := dkwX3_person_2 ++ []
def dkwX3_person_1 : List UInt8 := [3, 172, 187, 0, 157, 89, 183, 0, 233, 76, 42, 180, 0, 22, 43, 182, 0, 52, 87, 42, 43, 182, 0, 234]
abbrev dktX3_person_1 : List UInt8 := dkwX3_person_1 ++ dktX3_person_2
def dkwX3_person_0 : List UInt8 := [42, 42, 180, 0, 22, 182, 0, 56, 16, 10, 160, 0, 7, 4, 167, 0, 4, 3, 182, 0, 230, 153, 0, 5]
abbrev dktX3_person_0 : List UInt8 := dkwX3_person_0 ++ dktX3_person_1
theorem dksX3_person_0 : cX3_person.data.toList.drop 0 = dktX3_person_0 := by decide +kernel
theorem dksX3_person_1 : cX3_person.data.toList.drop 24 = dktX3_person_1 := dk_seg dksX3_person_0 24 rfl rfl
theorem dksX3_person_2 : cX3_person.data.toList.drop 48 = dktX3_person_2 := dk_seg dksX3_person_1 24 rfl rfl
theorem dX3_person_0 : decode cX3_person 0 = .ok (.aload_n 0, 1) := dk_42 (dk_at dksX3_person_0 0 rfl rfl)
theorem dX3_person_1 : decode cX3_person 1 = .ok (.aload_n 0, 1) := dk_42 (dk_at dksX3_person_0 1 rfl rfl)
theorem dX3_person_2 : decode cX3_person 2 = .ok (.getfield 22, 3) := dk_180 0 22 (dk_at dksX3_person_0 2 rfl rfl)
theorem dX3_person_5 : decode cX3_person 5 = .ok (.invokevirtual 56, 3) := dk_182 0 56 (dk_at dksX3_person_0 5 rfl rfl)
theorem dX3_person_8 : decode cX3_person 8 = .ok (.bipush 10, 2) := dk_16 10 (dk_at dksX3_person_0 8 rfl rfl)
theorem dX3_person_10 : decode cX3_person 10 = .ok (.if_icmp .ne 7, 3) := dk_160 0 7 (dk_at dksX3_person_0 10 rfl rfl)
theorem dX3_person_13 : decode cX3_person 13 = .ok (.iconst 1, 1) := dk_4 (dk_at dksX3_person_0 13 rfl rfl)
theorem dX3_person_14 : decode cX3_person 14 = .ok (.goto 4, 3) := dk_167 0 4 (dk_at dksX3_person_0 14 rfl rfl)
theorem dX3_person_17 : decode cX3_person 17 = .ok (.iconst 0, 1) := dk_3 (dk_at dksX3_person_0 17 rfl rfl)
theorem dX3_person_18 : decode cX3_person 18 = .ok (.invokevirtual 230, 3) := dk_182 0 230 (dk_at dksX3_person_0 18 rfl rfl)
theorem dX3_person_21 : decode cX3_person 21 = .ok (.ifCond .eq 5, 3) := dk_153 0 5 (dk_at dksX3_person_0 21 rfl rfl)
theorem dX3_person_24 : decode cX3_person 24 = .ok (.iconst 0, 1) := dk_3 (dk_at dksX3_person_1 0 rfl rfl)
theorem dX3_person_25 : decode cX3_person 25 = .ok (.ireturn, 1) := dk_172 (dk_at dksX3_person_1 1 rfl rfl)
theorem dX3_person_26 : decode cX3_person 26 = .ok (.new 157, 3) := dk_187 0 157 (dk_at dksX3_person_1 2 rfl rfl)
theorem dX3_person_29 : decode cX3_person 29 = .ok (.dup, 1) := dk_89 (dk_at dksX3_person_1 5 rfl rfl)
theorem dX3_person_30 : decode cX3_person 30 = .ok (.invokespecial 233, 3) := dk_183 0 233 (dk_at dksX3_person_1 6 rfl rfl)
theorem dX3_person_33 : decode cX3_person 33 = .ok (.astore_n 1, 1) := dk_76 (dk_at dksX3_person_1 9 rfl rfl)
theorem dX3_person_34 : decode cX3_person 34 = .ok (.aload_n 0, 1) := dk_42 (dk_at dksX3_person_1 10 rfl rfl)
theorem dX3_person_35 : decode cX3_person 35 = .ok (.getfield 22, 3) := dk_180 0 22 (dk_at dksX3_person_1 11 rfl rfl)
theorem dX3_person_38 : decode cX3_person 38 = .ok (.aload_n 1, 1) := dk_43 (dk_at dksX3_person_1 14 rfl rfl)
theorem dX3_person_39 : decode cX3_person 39 = .ok (.invokevirtual 52, 3) := dk_182 0 52 (dk_at dksX3_person_1 15 rfl rfl)
theorem dX3_person_42 : decode cX3_person 42 = .ok (.pop, 1) := dk_87 (dk_at dksX3_person_1 18 rfl rfl)
theorem dX3_person_43 : decode cX3_person 43 = .ok (.aload_n 0, 1) := dk_42 (dk_at dksX3_person_1 19 rfl rfl)
theorem dX3_person_44 : decode cX3_person 44 = .ok (.aload_n 1, 1) := dk_43 (dk_at dksX3_person_1 20 rfl rfl)
theorem dX3_person_45 : decode cX3_person 45 = .ok (.invokevirtual 234, 3) := dk_182 0 234 (dk_at dksX3_person_1 21 rfl rfl)
theorem dX3_person_48 : decode cX3_person 48 = .ok (.aload_n 0, 1) := dk_42 (dk_at dksX3_person_2 0 rfl rfl)
theorem dX3_person_49 : decode cX3_person 49 = .ok (.getfield 22, 3) := dk_180 0 22 (dk_at dksX3_person_2 1 rfl rfl)
theorem dX3_person_52 : decode cX3_person 52 = .ok (.invokevirtual 56, 3) := dk_182 0 56 (dk_at dksX3_person_2 4 rfl rfl)
theorem dX3_person_55 : decode cX3_person 55 = .ok (.iconst 1, 1) := dk_4 (dk_at dksX3_person_2 7 rfl rfl)
theorem dX3_person_56 : decode cX3_person 56 = .ok (.isub, 1) := dk_100 (dk_at dksX3_person_2 8 rfl rfl)
theorem dX3_person_57 : decode cX3_person 57 = .ok (.ireturn, 1) := dk_172 (dk_at dksX3_person_2 9 rfl rfl)
abbrev cX3_isWrong : ByteArray := prog_15_method_3_code
def yX3_isWrong : MethodName := ⟨RX3, "isWrong", "(I)Z"⟩
def dkwX3_isWrong_0 : List UInt8 := [42, 27, 181, 0, 41, 27, 153, 0, 7, 4, 167, 0, 4, 3, 172]
abbrev dktX3_isWrong_0 : List UInt8 := dkwX3_isWrong_0 ++ []
theorem dksX3_isWrong_0 : cX3_isWrong.data.toList.drop 0 = dktX3_isWrong_0 := by decide +kernel
theorem dX3_isWrong_0 : decode cX3_isWrong 0 = .ok (.aload_n 0, 1) := dk_42 (dk_at dksX3_isWrong_0 0 rfl rfl)
theorem dX3_isWrong_1 : decode cX3_isWrong 1 = .ok (.iload_n 1, 1) := dk_27 (dk_at dksX3_isWrong_0 1 rfl rfl)
theorem dX3_isWrong_2 : decode cX3_isWrong 2 = .ok (.putfield 41, 3) := dk_181 0 41 (dk_at dksX3_isWrong_0 2 rfl rfl)
theorem dX3_isWrong_5 : decode cX3_isWrong 5 = .ok (.iload_n 1, 1) := dk_27 (dk_at dksX3_isWrong_0 5 rfl rfl)
theorem dX3_isWrong_6 : decode cX3_isWrong 6 = .ok (.ifCond .eq 7, 3) := dk_153 0 7 (dk_at dksX3_isWrong_0 6 rfl rfl)
theorem dX3_isWrong_9 : decode cX3_isWrong 9 = .ok (.iconst 1, 1) := dk_4 (dk_at dksX3_isWrong_0 9 rfl rfl)
theorem dX3_isWrong_10 : decode cX3_isWrong 10 = .ok (.goto 4, 3) := dk_167 0 4 (dk_at dksX3_isWrong_0 10 rfl rfl)
theorem dX3_isWrong_13 : decode cX3_isWrong 13 = .ok (.iconst 0, 1) := dk_3 (dk_at dksX3_isWrong_0 13 rfl rfl)
theorem dX3_isWrong_14 : decode cX3_isWrong 14 = .ok (.ireturn, 1) := dk_172 (dk_at dksX3_isWrong_0 14 rfl rfl)
abbrev cX3_goesOut : ByteArray := prog_15_method_21_code
def yX3_goesOut : MethodName := ⟨RX3, "goesOut", "(LKeygroveModel$Person;)V"⟩
def dkwX3_goesOut_2 : List UInt8 := [132, 2, 1, 167, 255, 240, 177]
abbrev dktX3_goesOut_2 : List UInt8 := dkwX3_goesOut_2 ++ []
def dkwX3_goesOut_1 : List UInt8 := [79, 132, 2, 1, 167, 255, 240, 3, 61, 28, 16, 16, 162, 0, 16, 43, 180, 0, 195, 28, 1, 83]
abbrev dktX3_goesOut_1 : List UInt8 := dkwX3_goesOut_1 ++ dktX3_goesOut_2
def dkwX3_goesOut_0 : List UInt8 := [43, 2, 181, 0, 178, 43, 2, 181, 0, 184, 3, 61, 28, 16, 31, 162, 0, 16, 43, 180, 0, 187, 28, 2]
abbrev dktX3_goesOut_0 : List UInt8 := dkwX3_goesOut_0 ++ dktX3_goesOut_1
theorem dksX3_goesOut_0 : cX3_goesOut.data.toList.drop 0 = dktX3_goesOut_0 := by decide +kernel
theorem dksX3_goesOut_1 : cX3_goesOut.data.toList.drop 24 = dktX3_goesOut_1 := dk_seg dksX3_goesOut_0 24 rfl rfl
theorem dksX3_goesOut_2 : cX3_goesOut.data.toList.drop 46 = dktX3_goesOut_2 := dk_seg dksX3_goesOut_1 22 rfl rfl
theorem dX3_goesOut_0 : decode cX3_goesOut 0 = .ok (.aload_n 1, 1) := dk_43 (dk_at dksX3_goesOut_0 0 rfl rfl)
theorem dX3_goesOut_1 : decode cX3_goesOut 1 = .ok (.iconst (-1), 1) := dk_2 (dk_at dksX3_goesOut_0 1 rfl rfl)
theorem dX3_goesOut_2 : decode cX3_goesOut 2 = .ok (.putfield 178, 3) := dk_181 0 178 (dk_at dksX3_goesOut_0 2 rfl rfl)
theorem dX3_goesOut_5 : decode cX3_goesOut 5 = .ok (.aload_n 1, 1) := dk_43 (dk_at dksX3_goesOut_0 5 rfl rfl)
theorem dX3_goesOut_6 : decode cX3_goesOut 6 = .ok (.iconst (-1), 1) := dk_2 (dk_at dksX3_goesOut_0 6 rfl rfl)
theorem dX3_goesOut_7 : decode cX3_goesOut 7 = .ok (.putfield 184, 3) := dk_181 0 184 (dk_at dksX3_goesOut_0 7 rfl rfl)
theorem dX3_goesOut_10 : decode cX3_goesOut 10 = .ok (.iconst 0, 1) := dk_3 (dk_at dksX3_goesOut_0 10 rfl rfl)
theorem dX3_goesOut_11 : decode cX3_goesOut 11 = .ok (.istore_n 2, 1) := dk_61 (dk_at dksX3_goesOut_0 11 rfl rfl)
theorem dX3_goesOut_12 : decode cX3_goesOut 12 = .ok (.iload_n 2, 1) := dk_28 (dk_at dksX3_goesOut_0 12 rfl rfl)
theorem dX3_goesOut_13 : decode cX3_goesOut 13 = .ok (.bipush 31, 2) := dk_16 31 (dk_at dksX3_goesOut_0 13 rfl rfl)
theorem dX3_goesOut_15 : decode cX3_goesOut 15 = .ok (.if_icmp .ge 16, 3) := dk_162 0 16 (dk_at dksX3_goesOut_0 15 rfl rfl)
theorem dX3_goesOut_18 : decode cX3_goesOut 18 = .ok (.aload_n 1, 1) := dk_43 (dk_at dksX3_goesOut_0 18 rfl rfl)
theorem dX3_goesOut_19 : decode cX3_goesOut 19 = .ok (.getfield 187, 3) := dk_180 0 187 (dk_at dksX3_goesOut_0 19 rfl rfl)
theorem dX3_goesOut_22 : decode cX3_goesOut 22 = .ok (.iload_n 2, 1) := dk_28 (dk_at dksX3_goesOut_0 22 rfl rfl)
theorem dX3_goesOut_23 : decode cX3_goesOut 23 = .ok (.iconst (-1), 1) := dk_2 (dk_at dksX3_goesOut_0 23 rfl rfl)
theorem dX3_goesOut_24 : decode cX3_goesOut 24 = .ok (.iastore, 1) := dk_79 (dk_at dksX3_goesOut_1 0 rfl rfl)
theorem dX3_goesOut_25 : decode cX3_goesOut 25 = .ok (.iinc 2 1, 3) := dk_132 2 1 (dk_at dksX3_goesOut_1 1 rfl rfl)
theorem dX3_goesOut_28 : decode cX3_goesOut 28 = .ok (.goto (-16), 3) := dk_167 255 240 (dk_at dksX3_goesOut_1 4 rfl rfl)
theorem dX3_goesOut_31 : decode cX3_goesOut 31 = .ok (.iconst 0, 1) := dk_3 (dk_at dksX3_goesOut_1 7 rfl rfl)
theorem dX3_goesOut_32 : decode cX3_goesOut 32 = .ok (.istore_n 2, 1) := dk_61 (dk_at dksX3_goesOut_1 8 rfl rfl)
theorem dX3_goesOut_33 : decode cX3_goesOut 33 = .ok (.iload_n 2, 1) := dk_28 (dk_at dksX3_goesOut_1 9 rfl rfl)
theorem dX3_goesOut_34 : decode cX3_goesOut 34 = .ok (.bipush 16, 2) := dk_16 16 (dk_at dksX3_goesOut_1 10 rfl rfl)
theorem dX3_goesOut_36 : decode cX3_goesOut 36 = .ok (.if_icmp .ge 16, 3) := dk_162 0 16 (dk_at dksX3_goesOut_1 12 rfl rfl)
theorem dX3_goesOut_39 : decode cX3_goesOut 39 = .ok (.aload_n 1, 1) := dk_43 (dk_at dksX3_goesOut_1 15 rfl rfl)
theorem dX3_goesOut_40 : decode cX3_goesOut 40 = .ok (.getfield 195, 3) := dk_180 0 195 (dk_at dksX3_goesOut_1 16 rfl rfl)
theorem dX3_goesOut_43 : decode cX3_goesOut 43 = .ok (.iload_n 2, 1) := dk_28 (dk_at dksX3_goesOut_1 19 rfl rfl)
theorem dX3_goesOut_44 : decode cX3_goesOut 44 = .ok (.aconst_null, 1) := dk_1 (dk_at dksX3_goesOut_1 20 rfl rfl)
theorem dX3_goesOut_45 : decode cX3_goesOut 45 = .ok (.aastore, 1) := dk_83 (dk_at dksX3_goesOut_1 21 rfl rfl)
theorem dX3_goesOut_46 : decode cX3_goesOut 46 = .ok (.iinc 2 1, 3) := dk_132 2 1 (dk_at dksX3_goesOut_2 0 rfl rfl)
theorem dX3_goesOut_49 : decode cX3_goesOut 49 = .ok (.goto (-16), 3) := dk_167 255 240 (dk_at dksX3_goesOut_2 3 rfl rfl)
theorem dX3_goesOut_52 : decode cX3_goesOut 52 = .ok (.return_, 1) := dk_177 (dk_at dksX3_goesOut_2 6 rfl rfl)
abbrev cX3_pack : ByteArray := prog_15_method_26_code
def yX3_pack : MethodName := ⟨RX3, "pack", "(I)I"⟩
def dkwX3_pack_3 : List UInt8 := [42, 180, 0, 19, 182, 0, 56, 4, 100, 172]
abbrev dktX3_pack_3 : List UInt8 := dkwX3_pack_3 ++ []
def dkwX3_pack_2 : List UInt8 := [180, 0, 19, 187, 0, 159, 89, 27, 28, 42, 182, 0, 238, 183, 0, 241, 182, 0, 52, 87, 42, 182, 0, 244]
abbrev dktX3_pack_2 : List UInt8 := dkwX3_pack_2 ++ dktX3_pack_3
def dkwX3_pack_1 : List UInt8 := [160, 0, 7, 5, 167, 0, 4, 3, 182, 0, 230, 153, 0, 5, 3, 172, 42, 182, 0, 238, 61, 42]
abbrev dktX3_pack_1 : List UInt8 := dkwX3_pack_1 ++ dktX3_pack_2
def dkwX3_pack_0 : List UInt8 := [42, 42, 27, 182, 0, 226, 154, 0, 7, 4, 167, 0, 20, 42, 180, 0, 19, 182, 0, 56, 16, 24]
abbrev dktX3_pack_0 : List UInt8 := dkwX3_pack_0 ++ dktX3_pack_1
theorem dksX3_pack_0 : cX3_pack.data.toList.drop 0 = dktX3_pack_0 := by decide +kernel
theorem dksX3_pack_1 : cX3_pack.data.toList.drop 22 = dktX3_pack_1 := dk_seg dksX3_pack_0 22 rfl rfl
theorem dksX3_pack_2 : cX3_pack.data.toList.drop 44 = dktX3_pack_2 := dk_seg dksX3_pack_1 22 rfl rfl
theorem dksX3_pack_3 : cX3_pack.data.toList.drop 68 = dktX3_pack_3 := dk_seg dksX3_pack_2 24 rfl rfl
theorem dX3_pack_0 : decode cX3_pack 0 = .ok (.aload_n 0, 1) := dk_42 (dk_at dksX3_pack_0 0 rfl rfl)
theorem dX3_pack_1 : decode cX3_pack 1 = .ok (.aload_n 0, 1) := dk_42 (dk_at dksX3_pack_0 1 rfl rfl)
theorem dX3_pack_2 : decode cX3_pack 2 = .ok (.iload_n 1, 1) := dk_27 (dk_at dksX3_pack_0 2 rfl rfl)
theorem dX3_pack_3 : decode cX3_pack 3 = .ok (.invokevirtual 226, 3) := dk_182 0 226 (dk_at dksX3_pack_0 3 rfl rfl)
theorem dX3_pack_6 : decode cX3_pack 6 = .ok (.ifCond .ne 7, 3) := dk_154 0 7 (dk_at dksX3_pack_0 6 rfl rfl)
theorem dX3_pack_9 : decode cX3_pack 9 = .ok (.iconst 1, 1) := dk_4 (dk_at dksX3_pack_0 9 rfl rfl)
theorem dX3_pack_10 : decode cX3_pack 10 = .ok (.goto 20, 3) := dk_167 0 20 (dk_at dksX3_pack_0 10 rfl rfl)
theorem dX3_pack_13 : decode cX3_pack 13 = .ok (.aload_n 0, 1) := dk_42 (dk_at dksX3_pack_0 13 rfl rfl)
theorem dX3_pack_14 : decode cX3_pack 14 = .ok (.getfield 19, 3) := dk_180 0 19 (dk_at dksX3_pack_0 14 rfl rfl)
theorem dX3_pack_17 : decode cX3_pack 17 = .ok (.invokevirtual 56, 3) := dk_182 0 56 (dk_at dksX3_pack_0 17 rfl rfl)
theorem dX3_pack_20 : decode cX3_pack 20 = .ok (.bipush 24, 2) := dk_16 24 (dk_at dksX3_pack_0 20 rfl rfl)
theorem dX3_pack_22 : decode cX3_pack 22 = .ok (.if_icmp .ne 7, 3) := dk_160 0 7 (dk_at dksX3_pack_1 0 rfl rfl)
theorem dX3_pack_25 : decode cX3_pack 25 = .ok (.iconst 2, 1) := dk_5 (dk_at dksX3_pack_1 3 rfl rfl)
theorem dX3_pack_26 : decode cX3_pack 26 = .ok (.goto 4, 3) := dk_167 0 4 (dk_at dksX3_pack_1 4 rfl rfl)
theorem dX3_pack_29 : decode cX3_pack 29 = .ok (.iconst 0, 1) := dk_3 (dk_at dksX3_pack_1 7 rfl rfl)
theorem dX3_pack_30 : decode cX3_pack 30 = .ok (.invokevirtual 230, 3) := dk_182 0 230 (dk_at dksX3_pack_1 8 rfl rfl)
theorem dX3_pack_33 : decode cX3_pack 33 = .ok (.ifCond .eq 5, 3) := dk_153 0 5 (dk_at dksX3_pack_1 11 rfl rfl)
theorem dX3_pack_36 : decode cX3_pack 36 = .ok (.iconst 0, 1) := dk_3 (dk_at dksX3_pack_1 14 rfl rfl)
theorem dX3_pack_37 : decode cX3_pack 37 = .ok (.ireturn, 1) := dk_172 (dk_at dksX3_pack_1 15 rfl rfl)
theorem dX3_pack_38 : decode cX3_pack 38 = .ok (.aload_n 0, 1) := dk_42 (dk_at dksX3_pack_1 16 rfl rfl)
theorem dX3_pack_39 : decode cX3_pack 39 = .ok (.invokevirtual 238, 3) := dk_182 0 238 (dk_at dksX3_pack_1 17 rfl rfl)
theorem dX3_pack_42 : decode cX3_pack 42 = .ok (.istore_n 2, 1) := dk_61 (dk_at dksX3_pack_1 20 rfl rfl)
theorem dX3_pack_43 : decode cX3_pack 43 = .ok (.aload_n 0, 1) := dk_42 (dk_at dksX3_pack_1 21 rfl rfl)
theorem dX3_pack_44 : decode cX3_pack 44 = .ok (.getfield 19, 3) := dk_180 0 19 (dk_at dksX3_pack_2 0 rfl rfl)
theorem dX3_pack_47 : decode cX3_pack 47 = .ok (.new 159, 3) := dk_187 0 159 (dk_at dksX3_pack_2 3 rfl rfl)
theorem dX3_pack_50 : decode cX3_pack 50 = .ok (.dup, 1) := dk_89 (dk_at dksX3_pack_2 6 rfl rfl)
theorem dX3_pack_51 : decode cX3_pack 51 = .ok (.iload_n 1, 1) := dk_27 (dk_at dksX3_pack_2 7 rfl rfl)
theorem dX3_pack_52 : decode cX3_pack 52 = .ok (.iload_n 2, 1) := dk_28 (dk_at dksX3_pack_2 8 rfl rfl)
theorem dX3_pack_53 : decode cX3_pack 53 = .ok (.aload_n 0, 1) := dk_42 (dk_at dksX3_pack_2 9 rfl rfl)
theorem dX3_pack_54 : decode cX3_pack 54 = .ok (.invokevirtual 238, 3) := dk_182 0 238 (dk_at dksX3_pack_2 10 rfl rfl)
theorem dX3_pack_57 : decode cX3_pack 57 = .ok (.invokespecial 241, 3) := dk_183 0 241 (dk_at dksX3_pack_2 13 rfl rfl)
theorem dX3_pack_60 : decode cX3_pack 60 = .ok (.invokevirtual 52, 3) := dk_182 0 52 (dk_at dksX3_pack_2 16 rfl rfl)
theorem dX3_pack_63 : decode cX3_pack 63 = .ok (.pop, 1) := dk_87 (dk_at dksX3_pack_2 19 rfl rfl)
theorem dX3_pack_64 : decode cX3_pack 64 = .ok (.aload_n 0, 1) := dk_42 (dk_at dksX3_pack_2 20 rfl rfl)
theorem dX3_pack_65 : decode cX3_pack 65 = .ok (.invokevirtual 244, 3) := dk_182 0 244 (dk_at dksX3_pack_2 21 rfl rfl)
theorem dX3_pack_68 : decode cX3_pack 68 = .ok (.aload_n 0, 1) := dk_42 (dk_at dksX3_pack_3 0 rfl rfl)
theorem dX3_pack_69 : decode cX3_pack 69 = .ok (.getfield 19, 3) := dk_180 0 19 (dk_at dksX3_pack_3 1 rfl rfl)
theorem dX3_pack_72 : decode cX3_pack 72 = .ok (.invokevirtual 56, 3) := dk_182 0 56 (dk_at dksX3_pack_3 4 rfl rfl)
theorem dX3_pack_75 : decode cX3_pack 75 = .ok (.iconst 1, 1) := dk_4 (dk_at dksX3_pack_3 7 rfl rfl)
theorem dX3_pack_76 : decode cX3_pack 76 = .ok (.isub, 1) := dk_100 (dk_at dksX3_pack_3 8 rfl rfl)
theorem dX3_pack_77 : decode cX3_pack 77 = .ok (.ireturn, 1) := dk_172 (dk_at dksX3_pack_3 9 rfl rfl)
abbrev cX3_isPerson : ByteArray := prog_15_method_23_code
def yX3_isPerson : MethodName := ⟨RX3, "isPerson", "(I)Z"⟩
def dkwX3_isPerson_0 : List UInt8 := [27, 3, 42, 180, 0, 22, 182, 0, 56, 4, 100, 184, 0, 222, 172]
abbrev dktX3_isPerson_0 : List UInt8 := dkwX3_isPerson_0 ++ []
theorem dksX3_isPerson_0 : cX3_isPerson.data.toList.drop 0 = dktX3_isPerson_0 := by decide +kernel
theorem dX3_isPerson_0 : decode cX3_isPerson 0 = .ok (.iload_n 1, 1) := dk_27 (dk_at dksX3_isPerson_0 0 rfl rfl)
theorem dX3_isPerson_1 : decode cX3_isPerson 1 = .ok (.iconst 0, 1) := dk_3 (dk_at dksX3_isPerson_0 1 rfl rfl)
theorem dX3_isPerson_2 : decode cX3_isPerson 2 = .ok (.aload_n 0, 1) := dk_42 (dk_at dksX3_isPerson_0 2 rfl rfl)
theorem dX3_isPerson_3 : decode cX3_isPerson 3 = .ok (.getfield 22, 3) := dk_180 0 22 (dk_at dksX3_isPerson_0 3 rfl rfl)
theorem dX3_isPerson_6 : decode cX3_isPerson 6 = .ok (.invokevirtual 56, 3) := dk_182 0 56 (dk_at dksX3_isPerson_0 6 rfl rfl)
theorem dX3_isPerson_9 : decode cX3_isPerson 9 = .ok (.iconst 1, 1) := dk_4 (dk_at dksX3_isPerson_0 9 rfl rfl)
theorem dX3_isPerson_10 : decode cX3_isPerson 10 = .ok (.isub, 1) := dk_100 (dk_at dksX3_isPerson_0 10 rfl rfl)
theorem dX3_isPerson_11 : decode cX3_isPerson 11 = .ok (.invokestatic 222, 3) := dk_184 0 222 (dk_at dksX3_isPerson_0 11 rfl rfl)
theorem dX3_isPerson_14 : decode cX3_isPerson 14 = .ok (.ireturn, 1) := dk_172 (dk_at dksX3_isPerson_0 14 rfl rfl)
abbrev cX3_isBetween : ByteArray := prog_15_method_4_code
def yX3_isBetween : MethodName := ⟨RX3, "isBetween", "(III)Z"⟩
def dkwX3_isBetween_0 : List UInt8 := [27, 26, 163, 0, 12, 26, 28, 163, 0, 7, 4, 167, 0, 4, 3, 172]
abbrev dktX3_isBetween_0 : List UInt8 := dkwX3_isBetween_0 ++ []
theorem dksX3_isBetween_0 : cX3_isBetween.data.toList.drop 0 = dktX3_isBetween_0 := by decide +kernel
theorem dX3_isBetween_0 : decode cX3_isBetween 0 = .ok (.iload_n 1, 1) := dk_27 (dk_at dksX3_isBetween_0 0 rfl rfl)
theorem dX3_isBetween_1 : decode cX3_isBetween 1 = .ok (.iload_n 0, 1) := dk_26 (dk_at dksX3_isBetween_0 1 rfl rfl)
theorem dX3_isBetween_2 : decode cX3_isBetween 2 = .ok (.if_icmp .gt 12, 3) := dk_163 0 12 (dk_at dksX3_isBetween_0 2 rfl rfl)
theorem dX3_isBetween_5 : decode cX3_isBetween 5 = .ok (.iload_n 0, 1) := dk_26 (dk_at dksX3_isBetween_0 5 rfl rfl)
theorem dX3_isBetween_6 : decode cX3_isBetween 6 = .ok (.iload_n 2, 1) := dk_28 (dk_at dksX3_isBetween_0 6 rfl rfl)
theorem dX3_isBetween_7 : decode cX3_isBetween 7 = .ok (.if_icmp .gt 7, 3) := dk_163 0 7 (dk_at dksX3_isBetween_0 7 rfl rfl)
theorem dX3_isBetween_10 : decode cX3_isBetween 10 = .ok (.iconst 1, 1) := dk_4 (dk_at dksX3_isBetween_0 10 rfl rfl)
theorem dX3_isBetween_11 : decode cX3_isBetween 11 = .ok (.goto 4, 3) := dk_167 0 4 (dk_at dksX3_isBetween_0 11 rfl rfl)
theorem dX3_isBetween_14 : decode cX3_isBetween 14 = .ok (.iconst 0, 1) := dk_3 (dk_at dksX3_isBetween_0 14 rfl rfl)
theorem dX3_isBetween_15 : decode cX3_isBetween 15 = .ok (.ireturn, 1) := dk_172 (dk_at dksX3_isBetween_0 15 rfl rfl)
abbrev cX3_drawn : ByteArray := prog_15_method_7_code
def yX3_drawn : MethodName := ⟨RX3, "drawn", "()I"⟩
def dkwX3_drawn_1 : List UInt8 := [2, 2, 3, 182, 0, 65, 172]
abbrev dktX3_drawn_1 : List UInt8 := dkwX3_drawn_1 ++ []
def dkwX3_drawn_0 : List UInt8 := [42, 42, 180, 0, 37, 18, 60, 104, 17, 48, 57, 96, 181, 0, 37, 42, 42, 180, 0, 37, 4, 184, 0, 61]
abbrev dktX3_drawn_0 : List UInt8 := dkwX3_drawn_0 ++ dktX3_drawn_1
theorem dksX3_drawn_0 : cX3_drawn.data.toList.drop 0 = dktX3_drawn_0 := by decide +kernel
theorem dksX3_drawn_1 : cX3_drawn.data.toList.drop 24 = dktX3_drawn_1 := dk_seg dksX3_drawn_0 24 rfl rfl
theorem dX3_drawn_0 : decode cX3_drawn 0 = .ok (.aload_n 0, 1) := dk_42 (dk_at dksX3_drawn_0 0 rfl rfl)
theorem dX3_drawn_1 : decode cX3_drawn 1 = .ok (.aload_n 0, 1) := dk_42 (dk_at dksX3_drawn_0 1 rfl rfl)
theorem dX3_drawn_2 : decode cX3_drawn 2 = .ok (.getfield 37, 3) := dk_180 0 37 (dk_at dksX3_drawn_0 2 rfl rfl)
theorem dX3_drawn_5 : decode cX3_drawn 5 = .ok (.ldc 60, 2) := dk_18 60 (dk_at dksX3_drawn_0 5 rfl rfl)
theorem dX3_drawn_7 : decode cX3_drawn 7 = .ok (.imul, 1) := dk_104 (dk_at dksX3_drawn_0 7 rfl rfl)
theorem dX3_drawn_8 : decode cX3_drawn 8 = .ok (.sipush 12345, 3) := dk_17 48 57 (dk_at dksX3_drawn_0 8 rfl rfl)
theorem dX3_drawn_11 : decode cX3_drawn 11 = .ok (.iadd, 1) := dk_96 (dk_at dksX3_drawn_0 11 rfl rfl)
theorem dX3_drawn_12 : decode cX3_drawn 12 = .ok (.putfield 37, 3) := dk_181 0 37 (dk_at dksX3_drawn_0 12 rfl rfl)
theorem dX3_drawn_15 : decode cX3_drawn 15 = .ok (.aload_n 0, 1) := dk_42 (dk_at dksX3_drawn_0 15 rfl rfl)
theorem dX3_drawn_16 : decode cX3_drawn 16 = .ok (.aload_n 0, 1) := dk_42 (dk_at dksX3_drawn_0 16 rfl rfl)
theorem dX3_drawn_17 : decode cX3_drawn 17 = .ok (.getfield 37, 3) := dk_180 0 37 (dk_at dksX3_drawn_0 17 rfl rfl)
theorem dX3_drawn_20 : decode cX3_drawn 20 = .ok (.iconst 1, 1) := dk_4 (dk_at dksX3_drawn_0 20 rfl rfl)
theorem dX3_drawn_21 : decode cX3_drawn 21 = .ok (.invokestatic 61, 3) := dk_184 0 61 (dk_at dksX3_drawn_0 21 rfl rfl)
theorem dX3_drawn_24 : decode cX3_drawn 24 = .ok (.iconst (-1), 1) := dk_2 (dk_at dksX3_drawn_1 0 rfl rfl)
theorem dX3_drawn_25 : decode cX3_drawn 25 = .ok (.iconst (-1), 1) := dk_2 (dk_at dksX3_drawn_1 1 rfl rfl)
theorem dX3_drawn_26 : decode cX3_drawn 26 = .ok (.iconst 0, 1) := dk_3 (dk_at dksX3_drawn_1 2 rfl rfl)
theorem dX3_drawn_27 : decode cX3_drawn 27 = .ok (.invokevirtual 65, 3) := dk_182 0 65 (dk_at dksX3_drawn_1 3 rfl rfl)
theorem dX3_drawn_30 : decode cX3_drawn 30 = .ok (.ireturn, 1) := dk_172 (dk_at dksX3_drawn_1 6 rfl rfl)
abbrev cX3_mix : ByteArray := prog_15_method_5_code
def yX3_mix : MethodName := ⟨RX3, "mix", "(II)I"⟩
def dkwX3_mix_1 : List UInt8 := [16, 13, 124, 130, 61, 28, 18, 46, 104, 61, 28, 28, 16, 16, 124, 130, 172]
abbrev dktX3_mix_1 : List UInt8 := dkwX3_mix_1 ++ []
def dkwX3_mix_0 : List UInt8 := [26, 18, 44, 27, 4, 96, 104, 96, 61, 28, 28, 16, 16, 124, 130, 61, 28, 18, 45, 104, 61, 28, 28]
abbrev dktX3_mix_0 : List UInt8 := dkwX3_mix_0 ++ dktX3_mix_1
theorem dksX3_mix_0 : cX3_mix.data.toList.drop 0 = dktX3_mix_0 := by decide +kernel
theorem dksX3_mix_1 : cX3_mix.data.toList.drop 23 = dktX3_mix_1 := dk_seg dksX3_mix_0 23 rfl rfl
theorem dX3_mix_0 : decode cX3_mix 0 = .ok (.iload_n 0, 1) := dk_26 (dk_at dksX3_mix_0 0 rfl rfl)
theorem dX3_mix_1 : decode cX3_mix 1 = .ok (.ldc 44, 2) := dk_18 44 (dk_at dksX3_mix_0 1 rfl rfl)
theorem dX3_mix_3 : decode cX3_mix 3 = .ok (.iload_n 1, 1) := dk_27 (dk_at dksX3_mix_0 3 rfl rfl)
theorem dX3_mix_4 : decode cX3_mix 4 = .ok (.iconst 1, 1) := dk_4 (dk_at dksX3_mix_0 4 rfl rfl)
theorem dX3_mix_5 : decode cX3_mix 5 = .ok (.iadd, 1) := dk_96 (dk_at dksX3_mix_0 5 rfl rfl)
theorem dX3_mix_6 : decode cX3_mix 6 = .ok (.imul, 1) := dk_104 (dk_at dksX3_mix_0 6 rfl rfl)
theorem dX3_mix_7 : decode cX3_mix 7 = .ok (.iadd, 1) := dk_96 (dk_at dksX3_mix_0 7 rfl rfl)
theorem dX3_mix_8 : decode cX3_mix 8 = .ok (.istore_n 2, 1) := dk_61 (dk_at dksX3_mix_0 8 rfl rfl)
theorem dX3_mix_9 : decode cX3_mix 9 = .ok (.iload_n 2, 1) := dk_28 (dk_at dksX3_mix_0 9 rfl rfl)
theorem dX3_mix_10 : decode cX3_mix 10 = .ok (.iload_n 2, 1) := dk_28 (dk_at dksX3_mix_0 10 rfl rfl)
theorem dX3_mix_11 : decode cX3_mix 11 = .ok (.bipush 16, 2) := dk_16 16 (dk_at dksX3_mix_0 11 rfl rfl)
theorem dX3_mix_13 : decode cX3_mix 13 = .ok (.iushr, 1) := dk_124 (dk_at dksX3_mix_0 13 rfl rfl)
theorem dX3_mix_14 : decode cX3_mix 14 = .ok (.ixor, 1) := dk_130 (dk_at dksX3_mix_0 14 rfl rfl)
theorem dX3_mix_15 : decode cX3_mix 15 = .ok (.istore_n 2, 1) := dk_61 (dk_at dksX3_mix_0 15 rfl rfl)
theorem dX3_mix_16 : decode cX3_mix 16 = .ok (.iload_n 2, 1) := dk_28 (dk_at dksX3_mix_0 16 rfl rfl)
theorem dX3_mix_17 : decode cX3_mix 17 = .ok (.ldc 45, 2) := dk_18 45 (dk_at dksX3_mix_0 17 rfl rfl)
theorem dX3_mix_19 : decode cX3_mix 19 = .ok (.imul, 1) := dk_104 (dk_at dksX3_mix_0 19 rfl rfl)
theorem dX3_mix_20 : decode cX3_mix 20 = .ok (.istore_n 2, 1) := dk_61 (dk_at dksX3_mix_0 20 rfl rfl)
theorem dX3_mix_21 : decode cX3_mix 21 = .ok (.iload_n 2, 1) := dk_28 (dk_at dksX3_mix_0 21 rfl rfl)
theorem dX3_mix_22 : decode cX3_mix 22 = .ok (.iload_n 2, 1) := dk_28 (dk_at dksX3_mix_0 22 rfl rfl)
theorem dX3_mix_23 : decode cX3_mix 23 = .ok (.bipush 13, 2) := dk_16 13 (dk_at dksX3_mix_1 0 rfl rfl)
theorem dX3_mix_25 : decode cX3_mix 25 = .ok (.iushr, 1) := dk_124 (dk_at dksX3_mix_1 2 rfl rfl)
theorem dX3_mix_26 : decode cX3_mix 26 = .ok (.ixor, 1) := dk_130 (dk_at dksX3_mix_1 3 rfl rfl)
theorem dX3_mix_27 : decode cX3_mix 27 = .ok (.istore_n 2, 1) := dk_61 (dk_at dksX3_mix_1 4 rfl rfl)
theorem dX3_mix_28 : decode cX3_mix 28 = .ok (.iload_n 2, 1) := dk_28 (dk_at dksX3_mix_1 5 rfl rfl)
theorem dX3_mix_29 : decode cX3_mix 29 = .ok (.ldc 46, 2) := dk_18 46 (dk_at dksX3_mix_1 6 rfl rfl)
theorem dX3_mix_31 : decode cX3_mix 31 = .ok (.imul, 1) := dk_104 (dk_at dksX3_mix_1 8 rfl rfl)
theorem dX3_mix_32 : decode cX3_mix 32 = .ok (.istore_n 2, 1) := dk_61 (dk_at dksX3_mix_1 9 rfl rfl)
theorem dX3_mix_33 : decode cX3_mix 33 = .ok (.iload_n 2, 1) := dk_28 (dk_at dksX3_mix_1 10 rfl rfl)
theorem dX3_mix_34 : decode cX3_mix 34 = .ok (.iload_n 2, 1) := dk_28 (dk_at dksX3_mix_1 11 rfl rfl)
theorem dX3_mix_35 : decode cX3_mix 35 = .ok (.bipush 16, 2) := dk_16 16 (dk_at dksX3_mix_1 12 rfl rfl)
theorem dX3_mix_37 : decode cX3_mix 37 = .ok (.iushr, 1) := dk_124 (dk_at dksX3_mix_1 14 rfl rfl)
theorem dX3_mix_38 : decode cX3_mix 38 = .ok (.ixor, 1) := dk_130 (dk_at dksX3_mix_1 15 rfl rfl)
theorem dX3_mix_39 : decode cX3_mix 39 = .ok (.ireturn, 1) := dk_172 (dk_at dksX3_mix_1 16 rfl rfl)
abbrev cX3_laid : ByteArray := prog_15_method_6_code
def yX3_laid : MethodName := ⟨RX3, "laid", "(IIII)I"⟩
def dkwX3_laid_1 : List UInt8 := [182, 0, 56, 4, 100, 172]
abbrev dktX3_laid_1 : List UInt8 := dkwX3_laid_1 ++ []
def dkwX3_laid_0 : List UInt8 := [42, 180, 0, 10, 187, 0, 47, 89, 27, 28, 29, 21, 4, 183, 0, 49, 182, 0, 52, 87, 42, 180, 0, 10]
abbrev dktX3_laid_0 : List UInt8 := dkwX3_laid_0 ++ dktX3_laid_1
theorem dksX3_laid_0 : cX3_laid.data.toList.drop 0 = dktX3_laid_0 := by decide +kernel
theorem dksX3_laid_1 : cX3_laid.data.toList.drop 24 = dktX3_laid_1 := dk_seg dksX3_laid_0 24 rfl rfl
theorem dX3_laid_0 : decode cX3_laid 0 = .ok (.aload_n 0, 1) := dk_42 (dk_at dksX3_laid_0 0 rfl rfl)
theorem dX3_laid_1 : decode cX3_laid 1 = .ok (.getfield 10, 3) := dk_180 0 10 (dk_at dksX3_laid_0 1 rfl rfl)
theorem dX3_laid_4 : decode cX3_laid 4 = .ok (.new 47, 3) := dk_187 0 47 (dk_at dksX3_laid_0 4 rfl rfl)
theorem dX3_laid_7 : decode cX3_laid 7 = .ok (.dup, 1) := dk_89 (dk_at dksX3_laid_0 7 rfl rfl)
theorem dX3_laid_8 : decode cX3_laid 8 = .ok (.iload_n 1, 1) := dk_27 (dk_at dksX3_laid_0 8 rfl rfl)
theorem dX3_laid_9 : decode cX3_laid 9 = .ok (.iload_n 2, 1) := dk_28 (dk_at dksX3_laid_0 9 rfl rfl)
theorem dX3_laid_10 : decode cX3_laid 10 = .ok (.iload_n 3, 1) := dk_29 (dk_at dksX3_laid_0 10 rfl rfl)
theorem dX3_laid_11 : decode cX3_laid 11 = .ok (.iload 4, 2) := dk_21 4 (dk_at dksX3_laid_0 11 rfl rfl)
theorem dX3_laid_13 : decode cX3_laid 13 = .ok (.invokespecial 49, 3) := dk_183 0 49 (dk_at dksX3_laid_0 13 rfl rfl)
theorem dX3_laid_16 : decode cX3_laid 16 = .ok (.invokevirtual 52, 3) := dk_182 0 52 (dk_at dksX3_laid_0 16 rfl rfl)
theorem dX3_laid_19 : decode cX3_laid 19 = .ok (.pop, 1) := dk_87 (dk_at dksX3_laid_0 19 rfl rfl)
theorem dX3_laid_20 : decode cX3_laid 20 = .ok (.aload_n 0, 1) := dk_42 (dk_at dksX3_laid_0 20 rfl rfl)
theorem dX3_laid_21 : decode cX3_laid 21 = .ok (.getfield 10, 3) := dk_180 0 10 (dk_at dksX3_laid_0 21 rfl rfl)
theorem dX3_laid_24 : decode cX3_laid 24 = .ok (.invokevirtual 56, 3) := dk_182 0 56 (dk_at dksX3_laid_1 0 rfl rfl)
theorem dX3_laid_27 : decode cX3_laid 27 = .ok (.iconst 1, 1) := dk_4 (dk_at dksX3_laid_1 3 rfl rfl)
theorem dX3_laid_28 : decode cX3_laid 28 = .ok (.isub, 1) := dk_100 (dk_at dksX3_laid_1 4 rfl rfl)
theorem dX3_laid_29 : decode cX3_laid 29 = .ok (.ireturn, 1) := dk_172 (dk_at dksX3_laid_1 5 rfl rfl)
abbrev cX3_notes : ByteArray := prog_15_method_20_code
def yX3_notes : MethodName := ⟨RX3, "notes", "()V"⟩
def dkwX3_notes_3 : List UInt8 := [167, 255, 190, 177]
abbrev dktX3_notes_3 : List UInt8 := dkwX3_notes_3 ++ []
def dkwX3_notes_2 : List UInt8 := [180, 0, 22, 27, 182, 0, 69, 192, 0, 157, 180, 0, 211, 29, 184, 0, 171, 167, 255, 216, 132, 1, 1]
abbrev dktX3_notes_2 : List UInt8 := dkwX3_notes_2 ++ dktX3_notes_3
def dkwX3_notes_1 : List UInt8 := [185, 0, 101, 1, 0, 153, 0, 37, 44, 185, 0, 107, 1, 0, 192, 0, 111, 182, 0, 113, 62, 42]
abbrev dktX3_notes_1 : List UInt8 := dkwX3_notes_1 ++ dktX3_notes_2
def dkwX3_notes_0 : List UInt8 := [3, 60, 27, 42, 180, 0, 22, 182, 0, 56, 162, 0, 61, 42, 27, 182, 0, 207, 182, 0, 97, 77, 44]
abbrev dktX3_notes_0 : List UInt8 := dkwX3_notes_0 ++ dktX3_notes_1
theorem dksX3_notes_0 : cX3_notes.data.toList.drop 0 = dktX3_notes_0 := by decide +kernel
theorem dksX3_notes_1 : cX3_notes.data.toList.drop 23 = dktX3_notes_1 := dk_seg dksX3_notes_0 23 rfl rfl
theorem dksX3_notes_2 : cX3_notes.data.toList.drop 45 = dktX3_notes_2 := dk_seg dksX3_notes_1 22 rfl rfl
theorem dksX3_notes_3 : cX3_notes.data.toList.drop 68 = dktX3_notes_3 := dk_seg dksX3_notes_2 23 rfl rfl
theorem dX3_notes_0 : decode cX3_notes 0 = .ok (.iconst 0, 1) := dk_3 (dk_at dksX3_notes_0 0 rfl rfl)
theorem dX3_notes_1 : decode cX3_notes 1 = .ok (.istore_n 1, 1) := dk_60 (dk_at dksX3_notes_0 1 rfl rfl)
theorem dX3_notes_2 : decode cX3_notes 2 = .ok (.iload_n 1, 1) := dk_27 (dk_at dksX3_notes_0 2 rfl rfl)
theorem dX3_notes_3 : decode cX3_notes 3 = .ok (.aload_n 0, 1) := dk_42 (dk_at dksX3_notes_0 3 rfl rfl)
theorem dX3_notes_4 : decode cX3_notes 4 = .ok (.getfield 22, 3) := dk_180 0 22 (dk_at dksX3_notes_0 4 rfl rfl)
theorem dX3_notes_7 : decode cX3_notes 7 = .ok (.invokevirtual 56, 3) := dk_182 0 56 (dk_at dksX3_notes_0 7 rfl rfl)
theorem dX3_notes_10 : decode cX3_notes 10 = .ok (.if_icmp .ge 61, 3) := dk_162 0 61 (dk_at dksX3_notes_0 10 rfl rfl)
theorem dX3_notes_13 : decode cX3_notes 13 = .ok (.aload_n 0, 1) := dk_42 (dk_at dksX3_notes_0 13 rfl rfl)
theorem dX3_notes_14 : decode cX3_notes 14 = .ok (.iload_n 1, 1) := dk_27 (dk_at dksX3_notes_0 14 rfl rfl)
theorem dX3_notes_15 : decode cX3_notes 15 = .ok (.invokevirtual 207, 3) := dk_182 0 207 (dk_at dksX3_notes_0 15 rfl rfl)
theorem dX3_notes_18 : decode cX3_notes 18 = .ok (.invokevirtual 97, 3) := dk_182 0 97 (dk_at dksX3_notes_0 18 rfl rfl)
theorem dX3_notes_21 : decode cX3_notes 21 = .ok (.astore_n 2, 1) := dk_77 (dk_at dksX3_notes_0 21 rfl rfl)
theorem dX3_notes_22 : decode cX3_notes 22 = .ok (.aload_n 2, 1) := dk_44 (dk_at dksX3_notes_0 22 rfl rfl)
theorem dX3_notes_23 : decode cX3_notes 23 = .ok (.invokeinterface 101 1, 5) := by decide +kernel
theorem dX3_notes_28 : decode cX3_notes 28 = .ok (.ifCond .eq 37, 3) := dk_153 0 37 (dk_at dksX3_notes_1 5 rfl rfl)
theorem dX3_notes_31 : decode cX3_notes 31 = .ok (.aload_n 2, 1) := dk_44 (dk_at dksX3_notes_1 8 rfl rfl)
theorem dX3_notes_32 : decode cX3_notes 32 = .ok (.invokeinterface 107 1, 5) := by decide +kernel
theorem dX3_notes_37 : decode cX3_notes 37 = .ok (.checkcast 111, 3) := dk_192 0 111 (dk_at dksX3_notes_1 14 rfl rfl)
theorem dX3_notes_40 : decode cX3_notes 40 = .ok (.invokevirtual 113, 3) := dk_182 0 113 (dk_at dksX3_notes_1 17 rfl rfl)
theorem dX3_notes_43 : decode cX3_notes 43 = .ok (.istore_n 3, 1) := dk_62 (dk_at dksX3_notes_1 20 rfl rfl)
theorem dX3_notes_44 : decode cX3_notes 44 = .ok (.aload_n 0, 1) := dk_42 (dk_at dksX3_notes_1 21 rfl rfl)
theorem dX3_notes_45 : decode cX3_notes 45 = .ok (.getfield 22, 3) := dk_180 0 22 (dk_at dksX3_notes_2 0 rfl rfl)
theorem dX3_notes_48 : decode cX3_notes 48 = .ok (.iload_n 1, 1) := dk_27 (dk_at dksX3_notes_2 3 rfl rfl)
theorem dX3_notes_49 : decode cX3_notes 49 = .ok (.invokevirtual 69, 3) := dk_182 0 69 (dk_at dksX3_notes_2 4 rfl rfl)
theorem dX3_notes_52 : decode cX3_notes 52 = .ok (.checkcast 157, 3) := dk_192 0 157 (dk_at dksX3_notes_2 7 rfl rfl)
theorem dX3_notes_55 : decode cX3_notes 55 = .ok (.getfield 211, 3) := dk_180 0 211 (dk_at dksX3_notes_2 10 rfl rfl)
theorem dX3_notes_58 : decode cX3_notes 58 = .ok (.iload_n 3, 1) := dk_29 (dk_at dksX3_notes_2 13 rfl rfl)
theorem dX3_notes_59 : decode cX3_notes 59 = .ok (.invokestatic 171, 3) := dk_184 0 171 (dk_at dksX3_notes_2 14 rfl rfl)
theorem dX3_notes_62 : decode cX3_notes 62 = .ok (.goto (-40), 3) := dk_167 255 216 (dk_at dksX3_notes_2 17 rfl rfl)
theorem dX3_notes_65 : decode cX3_notes 65 = .ok (.iinc 1 1, 3) := dk_132 1 1 (dk_at dksX3_notes_2 20 rfl rfl)
theorem dX3_notes_68 : decode cX3_notes 68 = .ok (.goto (-66), 3) := dk_167 255 190 (dk_at dksX3_notes_3 0 rfl rfl)
theorem dX3_notes_71 : decode cX3_notes 71 = .ok (.return_, 1) := dk_177 (dk_at dksX3_notes_3 3 rfl rfl)
abbrev cX3_heldBy : ByteArray := prog_15_method_19_code
def yX3_heldBy : MethodName := ⟨RX3, "heldBy", "(I)Ljava/util/ArrayList;"⟩
def dkwX3_heldBy_12 : List UInt8 := [132, 7, 1, 167, 255, 178, 44, 176]
abbrev dktX3_heldBy_12 : List UInt8 := dkwX3_heldBy_12 ++ []
def dkwX3_heldBy_11 : List UInt8 := [25, 9, 185, 0, 107, 1, 0, 192, 0, 111, 182, 0, 113, 54, 10, 44, 21, 10, 184, 0, 171, 167, 255, 225]
abbrev dktX3_heldBy_11 : List UInt8 := dkwX3_heldBy_11 ++ dktX3_heldBy_12
def dkwX3_heldBy_10 : List UInt8 := [184, 0, 171, 25, 8, 180, 0, 204, 182, 0, 97, 58, 9, 25, 9, 185, 0, 101, 1, 0, 153, 0, 27]
abbrev dktX3_heldBy_10 : List UInt8 := dkwX3_heldBy_10 ++ dktX3_heldBy_11
def dkwX3_heldBy_9 : List UInt8 := [162, 0, 77, 25, 5, 21, 7, 50, 58, 8, 25, 8, 199, 0, 6, 167, 0, 56, 44, 25, 8, 180, 0, 199]
abbrev dktX3_heldBy_9 : List UInt8 := dkwX3_heldBy_9 ++ dktX3_heldBy_10
def dkwX3_heldBy_8 : List UInt8 := [180, 0, 192, 184, 0, 171, 45, 180, 0, 195, 58, 5, 25, 5, 190, 54, 6, 3, 54, 7, 21, 7, 21, 6]
abbrev dktX3_heldBy_8 : List UInt8 := dkwX3_heldBy_8 ++ dktX3_heldBy_9
def dkwX3_heldBy_7 : List UInt8 := [21, 8, 184, 0, 171, 132, 7, 1, 167, 255, 233, 44, 25, 4, 180, 0, 189, 184, 0, 171, 44, 25, 4]
abbrev dktX3_heldBy_7 : List UInt8 := dkwX3_heldBy_7 ++ dktX3_heldBy_8
def dkwX3_heldBy_6 : List UInt8 := [25, 5, 190, 54, 6, 3, 54, 7, 21, 7, 21, 6, 162, 0, 22, 25, 5, 21, 7, 46, 54, 8, 44]
abbrev dktX3_heldBy_6 : List UInt8 := dkwX3_heldBy_6 ++ dktX3_heldBy_7
def dkwX3_heldBy_5 : List UInt8 := [58, 4, 44, 45, 180, 0, 181, 184, 0, 171, 44, 45, 180, 0, 184, 184, 0, 171, 45, 180, 0, 187, 58, 5]
abbrev dktX3_heldBy_5 : List UInt8 := dkwX3_heldBy_5 ++ dktX3_heldBy_6
def dkwX3_heldBy_4 : List UInt8 := [45, 180, 0, 178, 2, 160, 0, 5, 44, 176, 42, 180, 0, 28, 45, 180, 0, 178, 182, 0, 69, 192, 0, 130]
abbrev dktX3_heldBy_4 : List UInt8 := dkwX3_heldBy_4 ++ dktX3_heldBy_5
def dkwX3_heldBy_3 : List UInt8 := [167, 255, 217, 44, 25, 5, 180, 0, 168, 184, 0, 171, 44, 25, 5, 180, 0, 175, 184, 0, 171, 167, 255, 196]
abbrev dktX3_heldBy_3 : List UInt8 := dkwX3_heldBy_3 ++ dktX3_heldBy_4
def dkwX3_heldBy_2 : List UInt8 := [192, 0, 159, 58, 5, 25, 5, 180, 0, 161, 27, 160, 255, 228, 25, 5, 180, 0, 164, 153, 0, 6]
abbrev dktX3_heldBy_2 : List UInt8 := dkwX3_heldBy_2 ++ dktX3_heldBy_3
def dkwX3_heldBy_1 : List UInt8 := [182, 0, 97, 58, 4, 25, 4, 185, 0, 101, 1, 0, 153, 0, 56, 25, 4, 185, 0, 107, 1, 0]
abbrev dktX3_heldBy_1 : List UInt8 := dkwX3_heldBy_1 ++ dktX3_heldBy_2
def dkwX3_heldBy_0 : List UInt8 := [187, 0, 7, 89, 183, 0, 9, 77, 42, 180, 0, 22, 27, 182, 0, 69, 192, 0, 157, 78, 42, 180, 0, 19]
abbrev dktX3_heldBy_0 : List UInt8 := dkwX3_heldBy_0 ++ dktX3_heldBy_1
theorem dksX3_heldBy_0 : cX3_heldBy.data.toList.drop 0 = dktX3_heldBy_0 := by decide +kernel
theorem dksX3_heldBy_1 : cX3_heldBy.data.toList.drop 24 = dktX3_heldBy_1 := dk_seg dksX3_heldBy_0 24 rfl rfl
theorem dksX3_heldBy_2 : cX3_heldBy.data.toList.drop 46 = dktX3_heldBy_2 := dk_seg dksX3_heldBy_1 22 rfl rfl
theorem dksX3_heldBy_3 : cX3_heldBy.data.toList.drop 68 = dktX3_heldBy_3 := dk_seg dksX3_heldBy_2 22 rfl rfl
theorem dksX3_heldBy_4 : cX3_heldBy.data.toList.drop 92 = dktX3_heldBy_4 := dk_seg dksX3_heldBy_3 24 rfl rfl
theorem dksX3_heldBy_5 : cX3_heldBy.data.toList.drop 116 = dktX3_heldBy_5 := dk_seg dksX3_heldBy_4 24 rfl rfl
theorem dksX3_heldBy_6 : cX3_heldBy.data.toList.drop 140 = dktX3_heldBy_6 := dk_seg dksX3_heldBy_5 24 rfl rfl
theorem dksX3_heldBy_7 : cX3_heldBy.data.toList.drop 163 = dktX3_heldBy_7 := dk_seg dksX3_heldBy_6 23 rfl rfl
theorem dksX3_heldBy_8 : cX3_heldBy.data.toList.drop 186 = dktX3_heldBy_8 := dk_seg dksX3_heldBy_7 23 rfl rfl
theorem dksX3_heldBy_9 : cX3_heldBy.data.toList.drop 210 = dktX3_heldBy_9 := dk_seg dksX3_heldBy_8 24 rfl rfl
theorem dksX3_heldBy_10 : cX3_heldBy.data.toList.drop 234 = dktX3_heldBy_10 := dk_seg dksX3_heldBy_9 24 rfl rfl
theorem dksX3_heldBy_11 : cX3_heldBy.data.toList.drop 257 = dktX3_heldBy_11 := dk_seg dksX3_heldBy_10 23 rfl rfl
theorem dksX3_heldBy_12 : cX3_heldBy.data.toList.drop 281 = dktX3_heldBy_12 := dk_seg dksX3_heldBy_11 24 rfl rfl
theorem dX3_heldBy_0 : decode cX3_heldBy 0 = .ok (.new 7, 3) := dk_187 0 7 (dk_at dksX3_heldBy_0 0 rfl rfl)
theorem dX3_heldBy_3 : decode cX3_heldBy 3 = .ok (.dup, 1) := dk_89 (dk_at dksX3_heldBy_0 3 rfl rfl)
theorem dX3_heldBy_4 : decode cX3_heldBy 4 = .ok (.invokespecial 9, 3) := dk_183 0 9 (dk_at dksX3_heldBy_0 4 rfl rfl)
theorem dX3_heldBy_7 : decode cX3_heldBy 7 = .ok (.astore_n 2, 1) := dk_77 (dk_at dksX3_heldBy_0 7 rfl rfl)
theorem dX3_heldBy_8 : decode cX3_heldBy 8 = .ok (.aload_n 0, 1) := dk_42 (dk_at dksX3_heldBy_0 8 rfl rfl)
theorem dX3_heldBy_9 : decode cX3_heldBy 9 = .ok (.getfield 22, 3) := dk_180 0 22 (dk_at dksX3_heldBy_0 9 rfl rfl)
theorem dX3_heldBy_12 : decode cX3_heldBy 12 = .ok (.iload_n 1, 1) := dk_27 (dk_at dksX3_heldBy_0 12 rfl rfl)
theorem dX3_heldBy_13 : decode cX3_heldBy 13 = .ok (.invokevirtual 69, 3) := dk_182 0 69 (dk_at dksX3_heldBy_0 13 rfl rfl)
theorem dX3_heldBy_16 : decode cX3_heldBy 16 = .ok (.checkcast 157, 3) := dk_192 0 157 (dk_at dksX3_heldBy_0 16 rfl rfl)
theorem dX3_heldBy_19 : decode cX3_heldBy 19 = .ok (.astore_n 3, 1) := dk_78 (dk_at dksX3_heldBy_0 19 rfl rfl)
theorem dX3_heldBy_20 : decode cX3_heldBy 20 = .ok (.aload_n 0, 1) := dk_42 (dk_at dksX3_heldBy_0 20 rfl rfl)
theorem dX3_heldBy_21 : decode cX3_heldBy 21 = .ok (.getfield 19, 3) := dk_180 0 19 (dk_at dksX3_heldBy_0 21 rfl rfl)
theorem dX3_heldBy_24 : decode cX3_heldBy 24 = .ok (.invokevirtual 97, 3) := dk_182 0 97 (dk_at dksX3_heldBy_1 0 rfl rfl)
theorem dX3_heldBy_27 : decode cX3_heldBy 27 = .ok (.astore 4, 2) := dk_58 4 (dk_at dksX3_heldBy_1 3 rfl rfl)
theorem dX3_heldBy_29 : decode cX3_heldBy 29 = .ok (.aload 4, 2) := dk_25 4 (dk_at dksX3_heldBy_1 5 rfl rfl)
theorem dX3_heldBy_31 : decode cX3_heldBy 31 = .ok (.invokeinterface 101 1, 5) := by decide +kernel
theorem dX3_heldBy_36 : decode cX3_heldBy 36 = .ok (.ifCond .eq 56, 3) := dk_153 0 56 (dk_at dksX3_heldBy_1 12 rfl rfl)
theorem dX3_heldBy_39 : decode cX3_heldBy 39 = .ok (.aload 4, 2) := dk_25 4 (dk_at dksX3_heldBy_1 15 rfl rfl)
theorem dX3_heldBy_41 : decode cX3_heldBy 41 = .ok (.invokeinterface 107 1, 5) := by decide +kernel
theorem dX3_heldBy_46 : decode cX3_heldBy 46 = .ok (.checkcast 159, 3) := dk_192 0 159 (dk_at dksX3_heldBy_2 0 rfl rfl)
theorem dX3_heldBy_49 : decode cX3_heldBy 49 = .ok (.astore 5, 2) := dk_58 5 (dk_at dksX3_heldBy_2 3 rfl rfl)
theorem dX3_heldBy_51 : decode cX3_heldBy 51 = .ok (.aload 5, 2) := dk_25 5 (dk_at dksX3_heldBy_2 5 rfl rfl)
theorem dX3_heldBy_53 : decode cX3_heldBy 53 = .ok (.getfield 161, 3) := dk_180 0 161 (dk_at dksX3_heldBy_2 7 rfl rfl)
theorem dX3_heldBy_56 : decode cX3_heldBy 56 = .ok (.iload_n 1, 1) := dk_27 (dk_at dksX3_heldBy_2 10 rfl rfl)
theorem dX3_heldBy_57 : decode cX3_heldBy 57 = .ok (.if_icmp .ne (-28), 3) := dk_160 255 228 (dk_at dksX3_heldBy_2 11 rfl rfl)
theorem dX3_heldBy_60 : decode cX3_heldBy 60 = .ok (.aload 5, 2) := dk_25 5 (dk_at dksX3_heldBy_2 14 rfl rfl)
theorem dX3_heldBy_62 : decode cX3_heldBy 62 = .ok (.getfield 164, 3) := dk_180 0 164 (dk_at dksX3_heldBy_2 16 rfl rfl)
theorem dX3_heldBy_65 : decode cX3_heldBy 65 = .ok (.ifCond .eq 6, 3) := dk_153 0 6 (dk_at dksX3_heldBy_2 19 rfl rfl)
theorem dX3_heldBy_68 : decode cX3_heldBy 68 = .ok (.goto (-39), 3) := dk_167 255 217 (dk_at dksX3_heldBy_3 0 rfl rfl)
theorem dX3_heldBy_71 : decode cX3_heldBy 71 = .ok (.aload_n 2, 1) := dk_44 (dk_at dksX3_heldBy_3 3 rfl rfl)
theorem dX3_heldBy_72 : decode cX3_heldBy 72 = .ok (.aload 5, 2) := dk_25 5 (dk_at dksX3_heldBy_3 4 rfl rfl)
theorem dX3_heldBy_74 : decode cX3_heldBy 74 = .ok (.getfield 168, 3) := dk_180 0 168 (dk_at dksX3_heldBy_3 6 rfl rfl)
theorem dX3_heldBy_77 : decode cX3_heldBy 77 = .ok (.invokestatic 171, 3) := dk_184 0 171 (dk_at dksX3_heldBy_3 9 rfl rfl)
theorem dX3_heldBy_80 : decode cX3_heldBy 80 = .ok (.aload_n 2, 1) := dk_44 (dk_at dksX3_heldBy_3 12 rfl rfl)
theorem dX3_heldBy_81 : decode cX3_heldBy 81 = .ok (.aload 5, 2) := dk_25 5 (dk_at dksX3_heldBy_3 13 rfl rfl)
theorem dX3_heldBy_83 : decode cX3_heldBy 83 = .ok (.getfield 175, 3) := dk_180 0 175 (dk_at dksX3_heldBy_3 15 rfl rfl)
theorem dX3_heldBy_86 : decode cX3_heldBy 86 = .ok (.invokestatic 171, 3) := dk_184 0 171 (dk_at dksX3_heldBy_3 18 rfl rfl)
theorem dX3_heldBy_89 : decode cX3_heldBy 89 = .ok (.goto (-60), 3) := dk_167 255 196 (dk_at dksX3_heldBy_3 21 rfl rfl)
theorem dX3_heldBy_92 : decode cX3_heldBy 92 = .ok (.aload_n 3, 1) := dk_45 (dk_at dksX3_heldBy_4 0 rfl rfl)
theorem dX3_heldBy_93 : decode cX3_heldBy 93 = .ok (.getfield 178, 3) := dk_180 0 178 (dk_at dksX3_heldBy_4 1 rfl rfl)
theorem dX3_heldBy_96 : decode cX3_heldBy 96 = .ok (.iconst (-1), 1) := dk_2 (dk_at dksX3_heldBy_4 4 rfl rfl)
theorem dX3_heldBy_97 : decode cX3_heldBy 97 = .ok (.if_icmp .ne 5, 3) := dk_160 0 5 (dk_at dksX3_heldBy_4 5 rfl rfl)
theorem dX3_heldBy_100 : decode cX3_heldBy 100 = .ok (.aload_n 2, 1) := dk_44 (dk_at dksX3_heldBy_4 8 rfl rfl)
theorem dX3_heldBy_101 : decode cX3_heldBy 101 = .ok (.areturn, 1) := dk_176 (dk_at dksX3_heldBy_4 9 rfl rfl)
theorem dX3_heldBy_102 : decode cX3_heldBy 102 = .ok (.aload_n 0, 1) := dk_42 (dk_at dksX3_heldBy_4 10 rfl rfl)
theorem dX3_heldBy_103 : decode cX3_heldBy 103 = .ok (.getfield 28, 3) := dk_180 0 28 (dk_at dksX3_heldBy_4 11 rfl rfl)
theorem dX3_heldBy_106 : decode cX3_heldBy 106 = .ok (.aload_n 3, 1) := dk_45 (dk_at dksX3_heldBy_4 14 rfl rfl)
theorem dX3_heldBy_107 : decode cX3_heldBy 107 = .ok (.getfield 178, 3) := dk_180 0 178 (dk_at dksX3_heldBy_4 15 rfl rfl)
theorem dX3_heldBy_110 : decode cX3_heldBy 110 = .ok (.invokevirtual 69, 3) := dk_182 0 69 (dk_at dksX3_heldBy_4 18 rfl rfl)
theorem dX3_heldBy_113 : decode cX3_heldBy 113 = .ok (.checkcast 130, 3) := dk_192 0 130 (dk_at dksX3_heldBy_4 21 rfl rfl)
theorem dX3_heldBy_116 : decode cX3_heldBy 116 = .ok (.astore 4, 2) := dk_58 4 (dk_at dksX3_heldBy_5 0 rfl rfl)
theorem dX3_heldBy_118 : decode cX3_heldBy 118 = .ok (.aload_n 2, 1) := dk_44 (dk_at dksX3_heldBy_5 2 rfl rfl)
theorem dX3_heldBy_119 : decode cX3_heldBy 119 = .ok (.aload_n 3, 1) := dk_45 (dk_at dksX3_heldBy_5 3 rfl rfl)
theorem dX3_heldBy_120 : decode cX3_heldBy 120 = .ok (.getfield 181, 3) := dk_180 0 181 (dk_at dksX3_heldBy_5 4 rfl rfl)
theorem dX3_heldBy_123 : decode cX3_heldBy 123 = .ok (.invokestatic 171, 3) := dk_184 0 171 (dk_at dksX3_heldBy_5 7 rfl rfl)
theorem dX3_heldBy_126 : decode cX3_heldBy 126 = .ok (.aload_n 2, 1) := dk_44 (dk_at dksX3_heldBy_5 10 rfl rfl)
theorem dX3_heldBy_127 : decode cX3_heldBy 127 = .ok (.aload_n 3, 1) := dk_45 (dk_at dksX3_heldBy_5 11 rfl rfl)
theorem dX3_heldBy_128 : decode cX3_heldBy 128 = .ok (.getfield 184, 3) := dk_180 0 184 (dk_at dksX3_heldBy_5 12 rfl rfl)
theorem dX3_heldBy_131 : decode cX3_heldBy 131 = .ok (.invokestatic 171, 3) := dk_184 0 171 (dk_at dksX3_heldBy_5 15 rfl rfl)
theorem dX3_heldBy_134 : decode cX3_heldBy 134 = .ok (.aload_n 3, 1) := dk_45 (dk_at dksX3_heldBy_5 18 rfl rfl)
theorem dX3_heldBy_135 : decode cX3_heldBy 135 = .ok (.getfield 187, 3) := dk_180 0 187 (dk_at dksX3_heldBy_5 19 rfl rfl)
theorem dX3_heldBy_138 : decode cX3_heldBy 138 = .ok (.astore 5, 2) := dk_58 5 (dk_at dksX3_heldBy_5 22 rfl rfl)
theorem dX3_heldBy_140 : decode cX3_heldBy 140 = .ok (.aload 5, 2) := dk_25 5 (dk_at dksX3_heldBy_6 0 rfl rfl)
theorem dX3_heldBy_142 : decode cX3_heldBy 142 = .ok (.arraylength, 1) := dk_190 (dk_at dksX3_heldBy_6 2 rfl rfl)
theorem dX3_heldBy_143 : decode cX3_heldBy 143 = .ok (.istore 6, 2) := dk_54 6 (dk_at dksX3_heldBy_6 3 rfl rfl)
theorem dX3_heldBy_145 : decode cX3_heldBy 145 = .ok (.iconst 0, 1) := dk_3 (dk_at dksX3_heldBy_6 5 rfl rfl)
theorem dX3_heldBy_146 : decode cX3_heldBy 146 = .ok (.istore 7, 2) := dk_54 7 (dk_at dksX3_heldBy_6 6 rfl rfl)
theorem dX3_heldBy_148 : decode cX3_heldBy 148 = .ok (.iload 7, 2) := dk_21 7 (dk_at dksX3_heldBy_6 8 rfl rfl)
theorem dX3_heldBy_150 : decode cX3_heldBy 150 = .ok (.iload 6, 2) := dk_21 6 (dk_at dksX3_heldBy_6 10 rfl rfl)
theorem dX3_heldBy_152 : decode cX3_heldBy 152 = .ok (.if_icmp .ge 22, 3) := dk_162 0 22 (dk_at dksX3_heldBy_6 12 rfl rfl)
theorem dX3_heldBy_155 : decode cX3_heldBy 155 = .ok (.aload 5, 2) := dk_25 5 (dk_at dksX3_heldBy_6 15 rfl rfl)
theorem dX3_heldBy_157 : decode cX3_heldBy 157 = .ok (.iload 7, 2) := dk_21 7 (dk_at dksX3_heldBy_6 17 rfl rfl)
theorem dX3_heldBy_159 : decode cX3_heldBy 159 = .ok (.iaload, 1) := dk_46 (dk_at dksX3_heldBy_6 19 rfl rfl)
theorem dX3_heldBy_160 : decode cX3_heldBy 160 = .ok (.istore 8, 2) := dk_54 8 (dk_at dksX3_heldBy_6 20 rfl rfl)
theorem dX3_heldBy_162 : decode cX3_heldBy 162 = .ok (.aload_n 2, 1) := dk_44 (dk_at dksX3_heldBy_6 22 rfl rfl)
theorem dX3_heldBy_163 : decode cX3_heldBy 163 = .ok (.iload 8, 2) := dk_21 8 (dk_at dksX3_heldBy_7 0 rfl rfl)
theorem dX3_heldBy_165 : decode cX3_heldBy 165 = .ok (.invokestatic 171, 3) := dk_184 0 171 (dk_at dksX3_heldBy_7 2 rfl rfl)
theorem dX3_heldBy_168 : decode cX3_heldBy 168 = .ok (.iinc 7 1, 3) := dk_132 7 1 (dk_at dksX3_heldBy_7 5 rfl rfl)
theorem dX3_heldBy_171 : decode cX3_heldBy 171 = .ok (.goto (-23), 3) := dk_167 255 233 (dk_at dksX3_heldBy_7 8 rfl rfl)
theorem dX3_heldBy_174 : decode cX3_heldBy 174 = .ok (.aload_n 2, 1) := dk_44 (dk_at dksX3_heldBy_7 11 rfl rfl)
theorem dX3_heldBy_175 : decode cX3_heldBy 175 = .ok (.aload 4, 2) := dk_25 4 (dk_at dksX3_heldBy_7 12 rfl rfl)
theorem dX3_heldBy_177 : decode cX3_heldBy 177 = .ok (.getfield 189, 3) := dk_180 0 189 (dk_at dksX3_heldBy_7 14 rfl rfl)
theorem dX3_heldBy_180 : decode cX3_heldBy 180 = .ok (.invokestatic 171, 3) := dk_184 0 171 (dk_at dksX3_heldBy_7 17 rfl rfl)
theorem dX3_heldBy_183 : decode cX3_heldBy 183 = .ok (.aload_n 2, 1) := dk_44 (dk_at dksX3_heldBy_7 20 rfl rfl)
theorem dX3_heldBy_184 : decode cX3_heldBy 184 = .ok (.aload 4, 2) := dk_25 4 (dk_at dksX3_heldBy_7 21 rfl rfl)
theorem dX3_heldBy_186 : decode cX3_heldBy 186 = .ok (.getfield 192, 3) := dk_180 0 192 (dk_at dksX3_heldBy_8 0 rfl rfl)
theorem dX3_heldBy_189 : decode cX3_heldBy 189 = .ok (.invokestatic 171, 3) := dk_184 0 171 (dk_at dksX3_heldBy_8 3 rfl rfl)
theorem dX3_heldBy_192 : decode cX3_heldBy 192 = .ok (.aload_n 3, 1) := dk_45 (dk_at dksX3_heldBy_8 6 rfl rfl)
theorem dX3_heldBy_193 : decode cX3_heldBy 193 = .ok (.getfield 195, 3) := dk_180 0 195 (dk_at dksX3_heldBy_8 7 rfl rfl)
theorem dX3_heldBy_196 : decode cX3_heldBy 196 = .ok (.astore 5, 2) := dk_58 5 (dk_at dksX3_heldBy_8 10 rfl rfl)
theorem dX3_heldBy_198 : decode cX3_heldBy 198 = .ok (.aload 5, 2) := dk_25 5 (dk_at dksX3_heldBy_8 12 rfl rfl)
theorem dX3_heldBy_200 : decode cX3_heldBy 200 = .ok (.arraylength, 1) := dk_190 (dk_at dksX3_heldBy_8 14 rfl rfl)
theorem dX3_heldBy_201 : decode cX3_heldBy 201 = .ok (.istore 6, 2) := dk_54 6 (dk_at dksX3_heldBy_8 15 rfl rfl)
theorem dX3_heldBy_203 : decode cX3_heldBy 203 = .ok (.iconst 0, 1) := dk_3 (dk_at dksX3_heldBy_8 17 rfl rfl)
theorem dX3_heldBy_204 : decode cX3_heldBy 204 = .ok (.istore 7, 2) := dk_54 7 (dk_at dksX3_heldBy_8 18 rfl rfl)
theorem dX3_heldBy_206 : decode cX3_heldBy 206 = .ok (.iload 7, 2) := dk_21 7 (dk_at dksX3_heldBy_8 20 rfl rfl)
theorem dX3_heldBy_208 : decode cX3_heldBy 208 = .ok (.iload 6, 2) := dk_21 6 (dk_at dksX3_heldBy_8 22 rfl rfl)
theorem dX3_heldBy_210 : decode cX3_heldBy 210 = .ok (.if_icmp .ge 77, 3) := dk_162 0 77 (dk_at dksX3_heldBy_9 0 rfl rfl)
theorem dX3_heldBy_213 : decode cX3_heldBy 213 = .ok (.aload 5, 2) := dk_25 5 (dk_at dksX3_heldBy_9 3 rfl rfl)
theorem dX3_heldBy_215 : decode cX3_heldBy 215 = .ok (.iload 7, 2) := dk_21 7 (dk_at dksX3_heldBy_9 5 rfl rfl)
theorem dX3_heldBy_217 : decode cX3_heldBy 217 = .ok (.aaload, 1) := dk_50 (dk_at dksX3_heldBy_9 7 rfl rfl)
theorem dX3_heldBy_218 : decode cX3_heldBy 218 = .ok (.astore 8, 2) := dk_58 8 (dk_at dksX3_heldBy_9 8 rfl rfl)
theorem dX3_heldBy_220 : decode cX3_heldBy 220 = .ok (.aload 8, 2) := dk_25 8 (dk_at dksX3_heldBy_9 10 rfl rfl)
theorem dX3_heldBy_222 : decode cX3_heldBy 222 = .ok (.ifnonnull 6, 3) := dk_199 0 6 (dk_at dksX3_heldBy_9 12 rfl rfl)
theorem dX3_heldBy_225 : decode cX3_heldBy 225 = .ok (.goto 56, 3) := dk_167 0 56 (dk_at dksX3_heldBy_9 15 rfl rfl)
theorem dX3_heldBy_228 : decode cX3_heldBy 228 = .ok (.aload_n 2, 1) := dk_44 (dk_at dksX3_heldBy_9 18 rfl rfl)
theorem dX3_heldBy_229 : decode cX3_heldBy 229 = .ok (.aload 8, 2) := dk_25 8 (dk_at dksX3_heldBy_9 19 rfl rfl)
theorem dX3_heldBy_231 : decode cX3_heldBy 231 = .ok (.getfield 199, 3) := dk_180 0 199 (dk_at dksX3_heldBy_9 21 rfl rfl)
theorem dX3_heldBy_234 : decode cX3_heldBy 234 = .ok (.invokestatic 171, 3) := dk_184 0 171 (dk_at dksX3_heldBy_10 0 rfl rfl)
theorem dX3_heldBy_237 : decode cX3_heldBy 237 = .ok (.aload 8, 2) := dk_25 8 (dk_at dksX3_heldBy_10 3 rfl rfl)
theorem dX3_heldBy_239 : decode cX3_heldBy 239 = .ok (.getfield 204, 3) := dk_180 0 204 (dk_at dksX3_heldBy_10 5 rfl rfl)
theorem dX3_heldBy_242 : decode cX3_heldBy 242 = .ok (.invokevirtual 97, 3) := dk_182 0 97 (dk_at dksX3_heldBy_10 8 rfl rfl)
theorem dX3_heldBy_245 : decode cX3_heldBy 245 = .ok (.astore 9, 2) := dk_58 9 (dk_at dksX3_heldBy_10 11 rfl rfl)
theorem dX3_heldBy_247 : decode cX3_heldBy 247 = .ok (.aload 9, 2) := dk_25 9 (dk_at dksX3_heldBy_10 13 rfl rfl)
theorem dX3_heldBy_249 : decode cX3_heldBy 249 = .ok (.invokeinterface 101 1, 5) := by decide +kernel
theorem dX3_heldBy_254 : decode cX3_heldBy 254 = .ok (.ifCond .eq 27, 3) := dk_153 0 27 (dk_at dksX3_heldBy_10 20 rfl rfl)
theorem dX3_heldBy_257 : decode cX3_heldBy 257 = .ok (.aload 9, 2) := dk_25 9 (dk_at dksX3_heldBy_11 0 rfl rfl)
theorem dX3_heldBy_259 : decode cX3_heldBy 259 = .ok (.invokeinterface 107 1, 5) := by decide +kernel
theorem dX3_heldBy_264 : decode cX3_heldBy 264 = .ok (.checkcast 111, 3) := dk_192 0 111 (dk_at dksX3_heldBy_11 7 rfl rfl)
theorem dX3_heldBy_267 : decode cX3_heldBy 267 = .ok (.invokevirtual 113, 3) := dk_182 0 113 (dk_at dksX3_heldBy_11 10 rfl rfl)
theorem dX3_heldBy_270 : decode cX3_heldBy 270 = .ok (.istore 10, 2) := dk_54 10 (dk_at dksX3_heldBy_11 13 rfl rfl)
theorem dX3_heldBy_272 : decode cX3_heldBy 272 = .ok (.aload_n 2, 1) := dk_44 (dk_at dksX3_heldBy_11 15 rfl rfl)
theorem dX3_heldBy_273 : decode cX3_heldBy 273 = .ok (.iload 10, 2) := dk_21 10 (dk_at dksX3_heldBy_11 16 rfl rfl)
theorem dX3_heldBy_275 : decode cX3_heldBy 275 = .ok (.invokestatic 171, 3) := dk_184 0 171 (dk_at dksX3_heldBy_11 18 rfl rfl)
theorem dX3_heldBy_278 : decode cX3_heldBy 278 = .ok (.goto (-31), 3) := dk_167 255 225 (dk_at dksX3_heldBy_11 21 rfl rfl)
theorem dX3_heldBy_281 : decode cX3_heldBy 281 = .ok (.iinc 7 1, 3) := dk_132 7 1 (dk_at dksX3_heldBy_12 0 rfl rfl)
theorem dX3_heldBy_284 : decode cX3_heldBy 284 = .ok (.goto (-78), 3) := dk_167 255 178 (dk_at dksX3_heldBy_12 3 rfl rfl)
theorem dX3_heldBy_287 : decode cX3_heldBy 287 = .ok (.aload_n 2, 1) := dk_44 (dk_at dksX3_heldBy_12 6 rfl rfl)
theorem dX3_heldBy_288 : decode cX3_heldBy 288 = .ok (.areturn, 1) := dk_176 (dk_at dksX3_heldBy_12 7 rfl rfl)
abbrev cX3_puts : ByteArray := prog_15_method_18_code
def yX3_puts : MethodName := ⟨RX3, "puts", "(Ljava/util/ArrayList;I)V"⟩
def dkwX3_puts_2 : List UInt8 := [184, 0, 135, 182, 0, 52, 87, 177]
abbrev dktX3_puts_2 : List UInt8 := dkwX3_puts_2 ++ []
def dkwX3_puts_1 : List UInt8 := [185, 0, 107, 1, 0, 192, 0, 111, 182, 0, 113, 62, 29, 27, 160, 0, 4, 177, 167, 255, 228, 42, 27]
abbrev dktX3_puts_1 : List UInt8 := dkwX3_puts_1 ++ dktX3_puts_2
def dkwX3_puts_0 : List UInt8 := [27, 2, 160, 0, 4, 177, 42, 182, 0, 97, 77, 44, 185, 0, 101, 1, 0, 153, 0, 25, 44]
abbrev dktX3_puts_0 : List UInt8 := dkwX3_puts_0 ++ dktX3_puts_1
theorem dksX3_puts_0 : cX3_puts.data.toList.drop 0 = dktX3_puts_0 := by decide +kernel
theorem dksX3_puts_1 : cX3_puts.data.toList.drop 21 = dktX3_puts_1 := dk_seg dksX3_puts_0 21 rfl rfl
theorem dksX3_puts_2 : cX3_puts.data.toList.drop 44 = dktX3_puts_2 := dk_seg dksX3_puts_1 23 rfl rfl
theorem dX3_puts_0 : decode cX3_puts 0 = .ok (.iload_n 1, 1) := dk_27 (dk_at dksX3_puts_0 0 rfl rfl)
theorem dX3_puts_1 : decode cX3_puts 1 = .ok (.iconst (-1), 1) := dk_2 (dk_at dksX3_puts_0 1 rfl rfl)
theorem dX3_puts_2 : decode cX3_puts 2 = .ok (.if_icmp .ne 4, 3) := dk_160 0 4 (dk_at dksX3_puts_0 2 rfl rfl)
theorem dX3_puts_5 : decode cX3_puts 5 = .ok (.return_, 1) := dk_177 (dk_at dksX3_puts_0 5 rfl rfl)
theorem dX3_puts_6 : decode cX3_puts 6 = .ok (.aload_n 0, 1) := dk_42 (dk_at dksX3_puts_0 6 rfl rfl)
theorem dX3_puts_7 : decode cX3_puts 7 = .ok (.invokevirtual 97, 3) := dk_182 0 97 (dk_at dksX3_puts_0 7 rfl rfl)
theorem dX3_puts_10 : decode cX3_puts 10 = .ok (.astore_n 2, 1) := dk_77 (dk_at dksX3_puts_0 10 rfl rfl)
theorem dX3_puts_11 : decode cX3_puts 11 = .ok (.aload_n 2, 1) := dk_44 (dk_at dksX3_puts_0 11 rfl rfl)
theorem dX3_puts_12 : decode cX3_puts 12 = .ok (.invokeinterface 101 1, 5) := by decide +kernel
theorem dX3_puts_17 : decode cX3_puts 17 = .ok (.ifCond .eq 25, 3) := dk_153 0 25 (dk_at dksX3_puts_0 17 rfl rfl)
theorem dX3_puts_20 : decode cX3_puts 20 = .ok (.aload_n 2, 1) := dk_44 (dk_at dksX3_puts_0 20 rfl rfl)
theorem dX3_puts_21 : decode cX3_puts 21 = .ok (.invokeinterface 107 1, 5) := by decide +kernel
theorem dX3_puts_26 : decode cX3_puts 26 = .ok (.checkcast 111, 3) := dk_192 0 111 (dk_at dksX3_puts_1 5 rfl rfl)
theorem dX3_puts_29 : decode cX3_puts 29 = .ok (.invokevirtual 113, 3) := dk_182 0 113 (dk_at dksX3_puts_1 8 rfl rfl)
theorem dX3_puts_32 : decode cX3_puts 32 = .ok (.istore_n 3, 1) := dk_62 (dk_at dksX3_puts_1 11 rfl rfl)
theorem dX3_puts_33 : decode cX3_puts 33 = .ok (.iload_n 3, 1) := dk_29 (dk_at dksX3_puts_1 12 rfl rfl)
theorem dX3_puts_34 : decode cX3_puts 34 = .ok (.iload_n 1, 1) := dk_27 (dk_at dksX3_puts_1 13 rfl rfl)
theorem dX3_puts_35 : decode cX3_puts 35 = .ok (.if_icmp .ne 4, 3) := dk_160 0 4 (dk_at dksX3_puts_1 14 rfl rfl)
theorem dX3_puts_38 : decode cX3_puts 38 = .ok (.return_, 1) := dk_177 (dk_at dksX3_puts_1 17 rfl rfl)
theorem dX3_puts_39 : decode cX3_puts 39 = .ok (.goto (-28), 3) := dk_167 255 228 (dk_at dksX3_puts_1 18 rfl rfl)
theorem dX3_puts_42 : decode cX3_puts 42 = .ok (.aload_n 0, 1) := dk_42 (dk_at dksX3_puts_1 21 rfl rfl)
theorem dX3_puts_43 : decode cX3_puts 43 = .ok (.iload_n 1, 1) := dk_27 (dk_at dksX3_puts_1 22 rfl rfl)
theorem dX3_puts_44 : decode cX3_puts 44 = .ok (.invokestatic 135, 3) := dk_184 0 135 (dk_at dksX3_puts_2 0 rfl rfl)
theorem dX3_puts_47 : decode cX3_puts 47 = .ok (.invokevirtual 52, 3) := dk_182 0 52 (dk_at dksX3_puts_2 3 rfl rfl)
theorem dX3_puts_50 : decode cX3_puts 50 = .ok (.pop, 1) := dk_87 (dk_at dksX3_puts_2 6 rfl rfl)
theorem dX3_puts_51 : decode cX3_puts 51 = .ok (.return_, 1) := dk_177 (dk_at dksX3_puts_2 7 rfl rfl)
abbrev cX3_create : ByteArray := prog_15_method_28_code
def yX3_create : MethodName := ⟨RX3, "create", "(I)I"⟩
def dkwX3_create_4 : List UInt8 := [44, 180, 0, 129, 3, 46, 181, 0, 181, 42, 45, 44, 182, 1, 7, 42, 182, 0, 244, 3, 172]
abbrev dktX3_create_4 : List UInt8 := dkwX3_create_4 ++ []
def dkwX3_create_3 : List UInt8 := [182, 0, 238, 182, 1, 0, 42, 180, 0, 22, 27, 182, 0, 69, 192, 0, 157, 78, 45, 3, 181, 1, 4, 45]
abbrev dktX3_create_3 : List UInt8 := dkwX3_create_3 ++ dktX3_create_4
def dkwX3_create_2 : List UInt8 := [181, 0, 247, 44, 180, 0, 254, 3, 27, 79, 44, 180, 0, 129, 3, 42, 182, 0, 238, 79, 42, 44, 42]
abbrev dktX3_create_2 : List UInt8 := dkwX3_create_2 ++ dktX3_create_3
def dkwX3_create_1 : List UInt8 := [167, 0, 4, 3, 182, 0, 230, 153, 0, 5, 3, 172, 187, 0, 130, 89, 3, 183, 0, 253, 77, 44, 4]
abbrev dktX3_create_1 : List UInt8 := dkwX3_create_1 ++ dktX3_create_2
def dkwX3_create_0 : List UInt8 := [42, 42, 27, 182, 0, 226, 154, 0, 7, 4, 167, 0, 18, 42, 180, 0, 28, 182, 0, 250, 154, 0, 7, 5]
abbrev dktX3_create_0 : List UInt8 := dkwX3_create_0 ++ dktX3_create_1
theorem dksX3_create_0 : cX3_create.data.toList.drop 0 = dktX3_create_0 := by decide +kernel
theorem dksX3_create_1 : cX3_create.data.toList.drop 24 = dktX3_create_1 := dk_seg dksX3_create_0 24 rfl rfl
theorem dksX3_create_2 : cX3_create.data.toList.drop 47 = dktX3_create_2 := dk_seg dksX3_create_1 23 rfl rfl
theorem dksX3_create_3 : cX3_create.data.toList.drop 70 = dktX3_create_3 := dk_seg dksX3_create_2 23 rfl rfl
theorem dksX3_create_4 : cX3_create.data.toList.drop 94 = dktX3_create_4 := dk_seg dksX3_create_3 24 rfl rfl
theorem dX3_create_0 : decode cX3_create 0 = .ok (.aload_n 0, 1) := dk_42 (dk_at dksX3_create_0 0 rfl rfl)
theorem dX3_create_1 : decode cX3_create 1 = .ok (.aload_n 0, 1) := dk_42 (dk_at dksX3_create_0 1 rfl rfl)
theorem dX3_create_2 : decode cX3_create 2 = .ok (.iload_n 1, 1) := dk_27 (dk_at dksX3_create_0 2 rfl rfl)
theorem dX3_create_3 : decode cX3_create 3 = .ok (.invokevirtual 226, 3) := dk_182 0 226 (dk_at dksX3_create_0 3 rfl rfl)
theorem dX3_create_6 : decode cX3_create 6 = .ok (.ifCond .ne 7, 3) := dk_154 0 7 (dk_at dksX3_create_0 6 rfl rfl)
theorem dX3_create_9 : decode cX3_create 9 = .ok (.iconst 1, 1) := dk_4 (dk_at dksX3_create_0 9 rfl rfl)
theorem dX3_create_10 : decode cX3_create 10 = .ok (.goto 18, 3) := dk_167 0 18 (dk_at dksX3_create_0 10 rfl rfl)
theorem dX3_create_13 : decode cX3_create 13 = .ok (.aload_n 0, 1) := dk_42 (dk_at dksX3_create_0 13 rfl rfl)
theorem dX3_create_14 : decode cX3_create 14 = .ok (.getfield 28, 3) := dk_180 0 28 (dk_at dksX3_create_0 14 rfl rfl)
theorem dX3_create_17 : decode cX3_create 17 = .ok (.invokevirtual 250, 3) := dk_182 0 250 (dk_at dksX3_create_0 17 rfl rfl)
theorem dX3_create_20 : decode cX3_create 20 = .ok (.ifCond .ne 7, 3) := dk_154 0 7 (dk_at dksX3_create_0 20 rfl rfl)
theorem dX3_create_23 : decode cX3_create 23 = .ok (.iconst 2, 1) := dk_5 (dk_at dksX3_create_0 23 rfl rfl)
theorem dX3_create_24 : decode cX3_create 24 = .ok (.goto 4, 3) := dk_167 0 4 (dk_at dksX3_create_1 0 rfl rfl)
theorem dX3_create_27 : decode cX3_create 27 = .ok (.iconst 0, 1) := dk_3 (dk_at dksX3_create_1 3 rfl rfl)
theorem dX3_create_28 : decode cX3_create 28 = .ok (.invokevirtual 230, 3) := dk_182 0 230 (dk_at dksX3_create_1 4 rfl rfl)
theorem dX3_create_31 : decode cX3_create 31 = .ok (.ifCond .eq 5, 3) := dk_153 0 5 (dk_at dksX3_create_1 7 rfl rfl)
theorem dX3_create_34 : decode cX3_create 34 = .ok (.iconst 0, 1) := dk_3 (dk_at dksX3_create_1 10 rfl rfl)
theorem dX3_create_35 : decode cX3_create 35 = .ok (.ireturn, 1) := dk_172 (dk_at dksX3_create_1 11 rfl rfl)
theorem dX3_create_36 : decode cX3_create 36 = .ok (.new 130, 3) := dk_187 0 130 (dk_at dksX3_create_1 12 rfl rfl)
theorem dX3_create_39 : decode cX3_create 39 = .ok (.dup, 1) := dk_89 (dk_at dksX3_create_1 15 rfl rfl)
theorem dX3_create_40 : decode cX3_create 40 = .ok (.iconst 0, 1) := dk_3 (dk_at dksX3_create_1 16 rfl rfl)
theorem dX3_create_41 : decode cX3_create 41 = .ok (.invokespecial 253, 3) := dk_183 0 253 (dk_at dksX3_create_1 17 rfl rfl)
theorem dX3_create_44 : decode cX3_create 44 = .ok (.astore_n 2, 1) := dk_77 (dk_at dksX3_create_1 20 rfl rfl)
theorem dX3_create_45 : decode cX3_create 45 = .ok (.aload_n 2, 1) := dk_44 (dk_at dksX3_create_1 21 rfl rfl)
theorem dX3_create_46 : decode cX3_create 46 = .ok (.iconst 1, 1) := dk_4 (dk_at dksX3_create_1 22 rfl rfl)
theorem dX3_create_47 : decode cX3_create 47 = .ok (.putfield 247, 3) := dk_181 0 247 (dk_at dksX3_create_2 0 rfl rfl)
theorem dX3_create_50 : decode cX3_create 50 = .ok (.aload_n 2, 1) := dk_44 (dk_at dksX3_create_2 3 rfl rfl)
theorem dX3_create_51 : decode cX3_create 51 = .ok (.getfield 254, 3) := dk_180 0 254 (dk_at dksX3_create_2 4 rfl rfl)
theorem dX3_create_54 : decode cX3_create 54 = .ok (.iconst 0, 1) := dk_3 (dk_at dksX3_create_2 7 rfl rfl)
theorem dX3_create_55 : decode cX3_create 55 = .ok (.iload_n 1, 1) := dk_27 (dk_at dksX3_create_2 8 rfl rfl)
theorem dX3_create_56 : decode cX3_create 56 = .ok (.iastore, 1) := dk_79 (dk_at dksX3_create_2 9 rfl rfl)
theorem dX3_create_57 : decode cX3_create 57 = .ok (.aload_n 2, 1) := dk_44 (dk_at dksX3_create_2 10 rfl rfl)
theorem dX3_create_58 : decode cX3_create 58 = .ok (.getfield 129, 3) := dk_180 0 129 (dk_at dksX3_create_2 11 rfl rfl)
theorem dX3_create_61 : decode cX3_create 61 = .ok (.iconst 0, 1) := dk_3 (dk_at dksX3_create_2 14 rfl rfl)
theorem dX3_create_62 : decode cX3_create 62 = .ok (.aload_n 0, 1) := dk_42 (dk_at dksX3_create_2 15 rfl rfl)
theorem dX3_create_63 : decode cX3_create 63 = .ok (.invokevirtual 238, 3) := dk_182 0 238 (dk_at dksX3_create_2 16 rfl rfl)
theorem dX3_create_66 : decode cX3_create 66 = .ok (.iastore, 1) := dk_79 (dk_at dksX3_create_2 19 rfl rfl)
theorem dX3_create_67 : decode cX3_create 67 = .ok (.aload_n 0, 1) := dk_42 (dk_at dksX3_create_2 20 rfl rfl)
theorem dX3_create_68 : decode cX3_create 68 = .ok (.aload_n 2, 1) := dk_44 (dk_at dksX3_create_2 21 rfl rfl)
theorem dX3_create_69 : decode cX3_create 69 = .ok (.aload_n 0, 1) := dk_42 (dk_at dksX3_create_2 22 rfl rfl)
theorem dX3_create_70 : decode cX3_create 70 = .ok (.invokevirtual 238, 3) := dk_182 0 238 (dk_at dksX3_create_3 0 rfl rfl)
theorem dX3_create_73 : decode cX3_create 73 = .ok (.invokevirtual 256, 3) := dk_182 1 0 (dk_at dksX3_create_3 3 rfl rfl)
theorem dX3_create_76 : decode cX3_create 76 = .ok (.aload_n 0, 1) := dk_42 (dk_at dksX3_create_3 6 rfl rfl)
theorem dX3_create_77 : decode cX3_create 77 = .ok (.getfield 22, 3) := dk_180 0 22 (dk_at dksX3_create_3 7 rfl rfl)
theorem dX3_create_80 : decode cX3_create 80 = .ok (.iload_n 1, 1) := dk_27 (dk_at dksX3_create_3 10 rfl rfl)
theorem dX3_create_81 : decode cX3_create 81 = .ok (.invokevirtual 69, 3) := dk_182 0 69 (dk_at dksX3_create_3 11 rfl rfl)
theorem dX3_create_84 : decode cX3_create 84 = .ok (.checkcast 157, 3) := dk_192 0 157 (dk_at dksX3_create_3 14 rfl rfl)
theorem dX3_create_87 : decode cX3_create 87 = .ok (.astore_n 3, 1) := dk_78 (dk_at dksX3_create_3 17 rfl rfl)
theorem dX3_create_88 : decode cX3_create 88 = .ok (.aload_n 3, 1) := dk_45 (dk_at dksX3_create_3 18 rfl rfl)
theorem dX3_create_89 : decode cX3_create 89 = .ok (.iconst 0, 1) := dk_3 (dk_at dksX3_create_3 19 rfl rfl)
theorem dX3_create_90 : decode cX3_create 90 = .ok (.putfield 260, 3) := dk_181 1 4 (dk_at dksX3_create_3 20 rfl rfl)
theorem dX3_create_93 : decode cX3_create 93 = .ok (.aload_n 3, 1) := dk_45 (dk_at dksX3_create_3 23 rfl rfl)
theorem dX3_create_94 : decode cX3_create 94 = .ok (.aload_n 2, 1) := dk_44 (dk_at dksX3_create_4 0 rfl rfl)
theorem dX3_create_95 : decode cX3_create 95 = .ok (.getfield 129, 3) := dk_180 0 129 (dk_at dksX3_create_4 1 rfl rfl)
theorem dX3_create_98 : decode cX3_create 98 = .ok (.iconst 0, 1) := dk_3 (dk_at dksX3_create_4 4 rfl rfl)
theorem dX3_create_99 : decode cX3_create 99 = .ok (.iaload, 1) := dk_46 (dk_at dksX3_create_4 5 rfl rfl)
theorem dX3_create_100 : decode cX3_create 100 = .ok (.putfield 181, 3) := dk_181 0 181 (dk_at dksX3_create_4 6 rfl rfl)
theorem dX3_create_103 : decode cX3_create 103 = .ok (.aload_n 0, 1) := dk_42 (dk_at dksX3_create_4 9 rfl rfl)
theorem dX3_create_104 : decode cX3_create 104 = .ok (.aload_n 3, 1) := dk_45 (dk_at dksX3_create_4 10 rfl rfl)
theorem dX3_create_105 : decode cX3_create 105 = .ok (.aload_n 2, 1) := dk_44 (dk_at dksX3_create_4 11 rfl rfl)
theorem dX3_create_106 : decode cX3_create 106 = .ok (.invokevirtual 263, 3) := dk_182 1 7 (dk_at dksX3_create_4 12 rfl rfl)
theorem dX3_create_109 : decode cX3_create 109 = .ok (.aload_n 0, 1) := dk_42 (dk_at dksX3_create_4 15 rfl rfl)
theorem dX3_create_110 : decode cX3_create 110 = .ok (.invokevirtual 244, 3) := dk_182 0 244 (dk_at dksX3_create_4 16 rfl rfl)
theorem dX3_create_113 : decode cX3_create 113 = .ok (.iconst 0, 1) := dk_3 (dk_at dksX3_create_4 19 rfl rfl)
theorem dX3_create_114 : decode cX3_create 114 = .ok (.ireturn, 1) := dk_172 (dk_at dksX3_create_4 20 rfl rfl)
abbrev cX3_begins : ByteArray := prog_15_method_27_code
def yX3_begins : MethodName := ⟨RX3, "begins", "(LKeygroveModel$Epoch;I)V"⟩
def dkwX3_begins_3 : List UInt8 := [42, 180, 0, 28, 43, 182, 0, 52, 87, 177]
abbrev dktX3_begins_3 : List UInt8 := dkwX3_begins_3 ++ []
def dkwX3_begins_2 : List UInt8 := [160, 0, 7, 2, 167, 0, 13, 42, 28, 2, 16, 100, 29, 96, 182, 0, 87, 79, 132, 3, 1, 167, 255, 213]
abbrev dktX3_begins_2 : List UInt8 := dkwX3_begins_2 ++ dktX3_begins_3
def dkwX3_begins_1 : List UInt8 := [62, 29, 43, 180, 0, 247, 162, 0, 41, 43, 180, 0, 217, 29, 43, 180, 0, 129, 5, 29, 104, 46, 2]
abbrev dktX3_begins_1 : List UInt8 := dkwX3_begins_1 ++ dktX3_begins_2
def dkwX3_begins_0 : List UInt8 := [43, 42, 28, 2, 8, 182, 0, 87, 181, 0, 189, 43, 42, 28, 2, 16, 6, 182, 0, 87, 181, 0, 192, 3]
abbrev dktX3_begins_0 : List UInt8 := dkwX3_begins_0 ++ dktX3_begins_1
theorem dksX3_begins_0 : cX3_begins.data.toList.drop 0 = dktX3_begins_0 := by decide +kernel
theorem dksX3_begins_1 : cX3_begins.data.toList.drop 24 = dktX3_begins_1 := dk_seg dksX3_begins_0 24 rfl rfl
theorem dksX3_begins_2 : cX3_begins.data.toList.drop 47 = dktX3_begins_2 := dk_seg dksX3_begins_1 23 rfl rfl
theorem dksX3_begins_3 : cX3_begins.data.toList.drop 71 = dktX3_begins_3 := dk_seg dksX3_begins_2 24 rfl rfl
theorem dX3_begins_0 : decode cX3_begins 0 = .ok (.aload_n 1, 1) := dk_43 (dk_at dksX3_begins_0 0 rfl rfl)
theorem dX3_begins_1 : decode cX3_begins 1 = .ok (.aload_n 0, 1) := dk_42 (dk_at dksX3_begins_0 1 rfl rfl)
theorem dX3_begins_2 : decode cX3_begins 2 = .ok (.iload_n 2, 1) := dk_28 (dk_at dksX3_begins_0 2 rfl rfl)
theorem dX3_begins_3 : decode cX3_begins 3 = .ok (.iconst (-1), 1) := dk_2 (dk_at dksX3_begins_0 3 rfl rfl)
theorem dX3_begins_4 : decode cX3_begins 4 = .ok (.iconst 5, 1) := dk_8 (dk_at dksX3_begins_0 4 rfl rfl)
theorem dX3_begins_5 : decode cX3_begins 5 = .ok (.invokevirtual 87, 3) := dk_182 0 87 (dk_at dksX3_begins_0 5 rfl rfl)
theorem dX3_begins_8 : decode cX3_begins 8 = .ok (.putfield 189, 3) := dk_181 0 189 (dk_at dksX3_begins_0 8 rfl rfl)
theorem dX3_begins_11 : decode cX3_begins 11 = .ok (.aload_n 1, 1) := dk_43 (dk_at dksX3_begins_0 11 rfl rfl)
theorem dX3_begins_12 : decode cX3_begins 12 = .ok (.aload_n 0, 1) := dk_42 (dk_at dksX3_begins_0 12 rfl rfl)
theorem dX3_begins_13 : decode cX3_begins 13 = .ok (.iload_n 2, 1) := dk_28 (dk_at dksX3_begins_0 13 rfl rfl)
theorem dX3_begins_14 : decode cX3_begins 14 = .ok (.iconst (-1), 1) := dk_2 (dk_at dksX3_begins_0 14 rfl rfl)
theorem dX3_begins_15 : decode cX3_begins 15 = .ok (.bipush 6, 2) := dk_16 6 (dk_at dksX3_begins_0 15 rfl rfl)
theorem dX3_begins_17 : decode cX3_begins 17 = .ok (.invokevirtual 87, 3) := dk_182 0 87 (dk_at dksX3_begins_0 17 rfl rfl)
theorem dX3_begins_20 : decode cX3_begins 20 = .ok (.putfield 192, 3) := dk_181 0 192 (dk_at dksX3_begins_0 20 rfl rfl)
theorem dX3_begins_23 : decode cX3_begins 23 = .ok (.iconst 0, 1) := dk_3 (dk_at dksX3_begins_0 23 rfl rfl)
theorem dX3_begins_24 : decode cX3_begins 24 = .ok (.istore_n 3, 1) := dk_62 (dk_at dksX3_begins_1 0 rfl rfl)
theorem dX3_begins_25 : decode cX3_begins 25 = .ok (.iload_n 3, 1) := dk_29 (dk_at dksX3_begins_1 1 rfl rfl)
theorem dX3_begins_26 : decode cX3_begins 26 = .ok (.aload_n 1, 1) := dk_43 (dk_at dksX3_begins_1 2 rfl rfl)
theorem dX3_begins_27 : decode cX3_begins 27 = .ok (.getfield 247, 3) := dk_180 0 247 (dk_at dksX3_begins_1 3 rfl rfl)
theorem dX3_begins_30 : decode cX3_begins 30 = .ok (.if_icmp .ge 41, 3) := dk_162 0 41 (dk_at dksX3_begins_1 6 rfl rfl)
theorem dX3_begins_33 : decode cX3_begins 33 = .ok (.aload_n 1, 1) := dk_43 (dk_at dksX3_begins_1 9 rfl rfl)
theorem dX3_begins_34 : decode cX3_begins 34 = .ok (.getfield 217, 3) := dk_180 0 217 (dk_at dksX3_begins_1 10 rfl rfl)
theorem dX3_begins_37 : decode cX3_begins 37 = .ok (.iload_n 3, 1) := dk_29 (dk_at dksX3_begins_1 13 rfl rfl)
theorem dX3_begins_38 : decode cX3_begins 38 = .ok (.aload_n 1, 1) := dk_43 (dk_at dksX3_begins_1 14 rfl rfl)
theorem dX3_begins_39 : decode cX3_begins 39 = .ok (.getfield 129, 3) := dk_180 0 129 (dk_at dksX3_begins_1 15 rfl rfl)
theorem dX3_begins_42 : decode cX3_begins 42 = .ok (.iconst 2, 1) := dk_5 (dk_at dksX3_begins_1 18 rfl rfl)
theorem dX3_begins_43 : decode cX3_begins 43 = .ok (.iload_n 3, 1) := dk_29 (dk_at dksX3_begins_1 19 rfl rfl)
theorem dX3_begins_44 : decode cX3_begins 44 = .ok (.imul, 1) := dk_104 (dk_at dksX3_begins_1 20 rfl rfl)
theorem dX3_begins_45 : decode cX3_begins 45 = .ok (.iaload, 1) := dk_46 (dk_at dksX3_begins_1 21 rfl rfl)
theorem dX3_begins_46 : decode cX3_begins 46 = .ok (.iconst (-1), 1) := dk_2 (dk_at dksX3_begins_1 22 rfl rfl)
theorem dX3_begins_47 : decode cX3_begins 47 = .ok (.if_icmp .ne 7, 3) := dk_160 0 7 (dk_at dksX3_begins_2 0 rfl rfl)
theorem dX3_begins_50 : decode cX3_begins 50 = .ok (.iconst (-1), 1) := dk_2 (dk_at dksX3_begins_2 3 rfl rfl)
theorem dX3_begins_51 : decode cX3_begins 51 = .ok (.goto 13, 3) := dk_167 0 13 (dk_at dksX3_begins_2 4 rfl rfl)
theorem dX3_begins_54 : decode cX3_begins 54 = .ok (.aload_n 0, 1) := dk_42 (dk_at dksX3_begins_2 7 rfl rfl)
theorem dX3_begins_55 : decode cX3_begins 55 = .ok (.iload_n 2, 1) := dk_28 (dk_at dksX3_begins_2 8 rfl rfl)
theorem dX3_begins_56 : decode cX3_begins 56 = .ok (.iconst (-1), 1) := dk_2 (dk_at dksX3_begins_2 9 rfl rfl)
theorem dX3_begins_57 : decode cX3_begins 57 = .ok (.bipush 100, 2) := dk_16 100 (dk_at dksX3_begins_2 10 rfl rfl)
theorem dX3_begins_59 : decode cX3_begins 59 = .ok (.iload_n 3, 1) := dk_29 (dk_at dksX3_begins_2 12 rfl rfl)
theorem dX3_begins_60 : decode cX3_begins 60 = .ok (.iadd, 1) := dk_96 (dk_at dksX3_begins_2 13 rfl rfl)
theorem dX3_begins_61 : decode cX3_begins 61 = .ok (.invokevirtual 87, 3) := dk_182 0 87 (dk_at dksX3_begins_2 14 rfl rfl)
theorem dX3_begins_64 : decode cX3_begins 64 = .ok (.iastore, 1) := dk_79 (dk_at dksX3_begins_2 17 rfl rfl)
theorem dX3_begins_65 : decode cX3_begins 65 = .ok (.iinc 3 1, 3) := dk_132 3 1 (dk_at dksX3_begins_2 18 rfl rfl)
theorem dX3_begins_68 : decode cX3_begins 68 = .ok (.goto (-43), 3) := dk_167 255 213 (dk_at dksX3_begins_2 21 rfl rfl)
theorem dX3_begins_71 : decode cX3_begins 71 = .ok (.aload_n 0, 1) := dk_42 (dk_at dksX3_begins_3 0 rfl rfl)
theorem dX3_begins_72 : decode cX3_begins 72 = .ok (.getfield 28, 3) := dk_180 0 28 (dk_at dksX3_begins_3 1 rfl rfl)
theorem dX3_begins_75 : decode cX3_begins 75 = .ok (.aload_n 1, 1) := dk_43 (dk_at dksX3_begins_3 4 rfl rfl)
theorem dX3_begins_76 : decode cX3_begins 76 = .ok (.invokevirtual 52, 3) := dk_182 0 52 (dk_at dksX3_begins_3 5 rfl rfl)
theorem dX3_begins_79 : decode cX3_begins 79 = .ok (.pop, 1) := dk_87 (dk_at dksX3_begins_3 8 rfl rfl)
theorem dX3_begins_80 : decode cX3_begins 80 = .ok (.return_, 1) := dk_177 (dk_at dksX3_begins_3 9 rfl rfl)
abbrev cX3_of : ByteArray := prog_15_method_8_code
def yX3_of : MethodName := ⟨RX3, "of", "(III)I"⟩
def dkwX3_of_5 : List UInt8 := [182, 0, 65, 172]
abbrev dktX3_of_5 : List UInt8 := dkwX3_of_5 ++ []
def dkwX3_of_4 : List UInt8 := [42, 180, 0, 10, 28, 182, 0, 69, 192, 0, 47, 180, 0, 82, 184, 0, 61, 29, 184, 0, 61, 27, 28, 29]
abbrev dktX3_of_4 : List UInt8 := dkwX3_of_4 ++ dktX3_of_5
def dkwX3_of_3 : List UInt8 := [182, 0, 69, 192, 0, 47, 180, 0, 82, 54, 4, 42, 28, 2, 160, 0, 8, 21, 4, 167, 0, 22, 21, 4]
abbrev dktX3_of_3 : List UInt8 := dkwX3_of_3 ++ dktX3_of_4
def dkwX3_of_2 : List UInt8 := [25, 5, 180, 0, 79, 29, 160, 0, 6, 21, 4, 172, 132, 4, 1, 167, 255, 197, 42, 180, 0, 10, 27]
abbrev dktX3_of_2 : List UInt8 := dkwX3_of_2 ++ dktX3_of_3
def dkwX3_of_1 : List UInt8 := [192, 0, 47, 58, 5, 25, 5, 180, 0, 73, 27, 160, 0, 24, 25, 5, 180, 0, 76, 28, 160, 0, 15]
abbrev dktX3_of_1 : List UInt8 := dkwX3_of_1 ++ dktX3_of_2
def dkwX3_of_0 : List UInt8 := [3, 54, 4, 21, 4, 42, 180, 0, 10, 182, 0, 56, 162, 0, 53, 42, 180, 0, 10, 21, 4, 182, 0, 69]
abbrev dktX3_of_0 : List UInt8 := dkwX3_of_0 ++ dktX3_of_1
theorem dksX3_of_0 : cX3_of.data.toList.drop 0 = dktX3_of_0 := by decide +kernel
theorem dksX3_of_1 : cX3_of.data.toList.drop 24 = dktX3_of_1 := dk_seg dksX3_of_0 24 rfl rfl
theorem dksX3_of_2 : cX3_of.data.toList.drop 47 = dktX3_of_2 := dk_seg dksX3_of_1 23 rfl rfl
theorem dksX3_of_3 : cX3_of.data.toList.drop 70 = dktX3_of_3 := dk_seg dksX3_of_2 23 rfl rfl
theorem dksX3_of_4 : cX3_of.data.toList.drop 94 = dktX3_of_4 := dk_seg dksX3_of_3 24 rfl rfl
theorem dksX3_of_5 : cX3_of.data.toList.drop 118 = dktX3_of_5 := dk_seg dksX3_of_4 24 rfl rfl
theorem dX3_of_0 : decode cX3_of 0 = .ok (.iconst 0, 1) := dk_3 (dk_at dksX3_of_0 0 rfl rfl)
theorem dX3_of_1 : decode cX3_of 1 = .ok (.istore 4, 2) := dk_54 4 (dk_at dksX3_of_0 1 rfl rfl)
theorem dX3_of_3 : decode cX3_of 3 = .ok (.iload 4, 2) := dk_21 4 (dk_at dksX3_of_0 3 rfl rfl)
theorem dX3_of_5 : decode cX3_of 5 = .ok (.aload_n 0, 1) := dk_42 (dk_at dksX3_of_0 5 rfl rfl)
theorem dX3_of_6 : decode cX3_of 6 = .ok (.getfield 10, 3) := dk_180 0 10 (dk_at dksX3_of_0 6 rfl rfl)
theorem dX3_of_9 : decode cX3_of 9 = .ok (.invokevirtual 56, 3) := dk_182 0 56 (dk_at dksX3_of_0 9 rfl rfl)
theorem dX3_of_12 : decode cX3_of 12 = .ok (.if_icmp .ge 53, 3) := dk_162 0 53 (dk_at dksX3_of_0 12 rfl rfl)
theorem dX3_of_15 : decode cX3_of 15 = .ok (.aload_n 0, 1) := dk_42 (dk_at dksX3_of_0 15 rfl rfl)
theorem dX3_of_16 : decode cX3_of 16 = .ok (.getfield 10, 3) := dk_180 0 10 (dk_at dksX3_of_0 16 rfl rfl)
theorem dX3_of_19 : decode cX3_of 19 = .ok (.iload 4, 2) := dk_21 4 (dk_at dksX3_of_0 19 rfl rfl)
theorem dX3_of_21 : decode cX3_of 21 = .ok (.invokevirtual 69, 3) := dk_182 0 69 (dk_at dksX3_of_0 21 rfl rfl)
theorem dX3_of_24 : decode cX3_of 24 = .ok (.checkcast 47, 3) := dk_192 0 47 (dk_at dksX3_of_1 0 rfl rfl)
theorem dX3_of_27 : decode cX3_of 27 = .ok (.astore 5, 2) := dk_58 5 (dk_at dksX3_of_1 3 rfl rfl)
theorem dX3_of_29 : decode cX3_of 29 = .ok (.aload 5, 2) := dk_25 5 (dk_at dksX3_of_1 5 rfl rfl)
theorem dX3_of_31 : decode cX3_of 31 = .ok (.getfield 73, 3) := dk_180 0 73 (dk_at dksX3_of_1 7 rfl rfl)
theorem dX3_of_34 : decode cX3_of 34 = .ok (.iload_n 1, 1) := dk_27 (dk_at dksX3_of_1 10 rfl rfl)
theorem dX3_of_35 : decode cX3_of 35 = .ok (.if_icmp .ne 24, 3) := dk_160 0 24 (dk_at dksX3_of_1 11 rfl rfl)
theorem dX3_of_38 : decode cX3_of 38 = .ok (.aload 5, 2) := dk_25 5 (dk_at dksX3_of_1 14 rfl rfl)
theorem dX3_of_40 : decode cX3_of 40 = .ok (.getfield 76, 3) := dk_180 0 76 (dk_at dksX3_of_1 16 rfl rfl)
theorem dX3_of_43 : decode cX3_of 43 = .ok (.iload_n 2, 1) := dk_28 (dk_at dksX3_of_1 19 rfl rfl)
theorem dX3_of_44 : decode cX3_of 44 = .ok (.if_icmp .ne 15, 3) := dk_160 0 15 (dk_at dksX3_of_1 20 rfl rfl)
theorem dX3_of_47 : decode cX3_of 47 = .ok (.aload 5, 2) := dk_25 5 (dk_at dksX3_of_2 0 rfl rfl)
theorem dX3_of_49 : decode cX3_of 49 = .ok (.getfield 79, 3) := dk_180 0 79 (dk_at dksX3_of_2 2 rfl rfl)
theorem dX3_of_52 : decode cX3_of 52 = .ok (.iload_n 3, 1) := dk_29 (dk_at dksX3_of_2 5 rfl rfl)
theorem dX3_of_53 : decode cX3_of 53 = .ok (.if_icmp .ne 6, 3) := dk_160 0 6 (dk_at dksX3_of_2 6 rfl rfl)
theorem dX3_of_56 : decode cX3_of 56 = .ok (.iload 4, 2) := dk_21 4 (dk_at dksX3_of_2 9 rfl rfl)
theorem dX3_of_58 : decode cX3_of 58 = .ok (.ireturn, 1) := dk_172 (dk_at dksX3_of_2 11 rfl rfl)
theorem dX3_of_59 : decode cX3_of 59 = .ok (.iinc 4 1, 3) := dk_132 4 1 (dk_at dksX3_of_2 12 rfl rfl)
theorem dX3_of_62 : decode cX3_of 62 = .ok (.goto (-59), 3) := dk_167 255 197 (dk_at dksX3_of_2 15 rfl rfl)
theorem dX3_of_65 : decode cX3_of 65 = .ok (.aload_n 0, 1) := dk_42 (dk_at dksX3_of_2 18 rfl rfl)
theorem dX3_of_66 : decode cX3_of 66 = .ok (.getfield 10, 3) := dk_180 0 10 (dk_at dksX3_of_2 19 rfl rfl)
theorem dX3_of_69 : decode cX3_of 69 = .ok (.iload_n 1, 1) := dk_27 (dk_at dksX3_of_2 22 rfl rfl)
theorem dX3_of_70 : decode cX3_of 70 = .ok (.invokevirtual 69, 3) := dk_182 0 69 (dk_at dksX3_of_3 0 rfl rfl)
theorem dX3_of_73 : decode cX3_of 73 = .ok (.checkcast 47, 3) := dk_192 0 47 (dk_at dksX3_of_3 3 rfl rfl)
theorem dX3_of_76 : decode cX3_of 76 = .ok (.getfield 82, 3) := dk_180 0 82 (dk_at dksX3_of_3 6 rfl rfl)
theorem dX3_of_79 : decode cX3_of 79 = .ok (.istore 4, 2) := dk_54 4 (dk_at dksX3_of_3 9 rfl rfl)
theorem dX3_of_81 : decode cX3_of 81 = .ok (.aload_n 0, 1) := dk_42 (dk_at dksX3_of_3 11 rfl rfl)
theorem dX3_of_82 : decode cX3_of 82 = .ok (.iload_n 2, 1) := dk_28 (dk_at dksX3_of_3 12 rfl rfl)
theorem dX3_of_83 : decode cX3_of 83 = .ok (.iconst (-1), 1) := dk_2 (dk_at dksX3_of_3 13 rfl rfl)
theorem dX3_of_84 : decode cX3_of 84 = .ok (.if_icmp .ne 8, 3) := dk_160 0 8 (dk_at dksX3_of_3 14 rfl rfl)
theorem dX3_of_87 : decode cX3_of 87 = .ok (.iload 4, 2) := dk_21 4 (dk_at dksX3_of_3 17 rfl rfl)
theorem dX3_of_89 : decode cX3_of 89 = .ok (.goto 22, 3) := dk_167 0 22 (dk_at dksX3_of_3 19 rfl rfl)
theorem dX3_of_92 : decode cX3_of 92 = .ok (.iload 4, 2) := dk_21 4 (dk_at dksX3_of_3 22 rfl rfl)
theorem dX3_of_94 : decode cX3_of 94 = .ok (.aload_n 0, 1) := dk_42 (dk_at dksX3_of_4 0 rfl rfl)
theorem dX3_of_95 : decode cX3_of 95 = .ok (.getfield 10, 3) := dk_180 0 10 (dk_at dksX3_of_4 1 rfl rfl)
theorem dX3_of_98 : decode cX3_of 98 = .ok (.iload_n 2, 1) := dk_28 (dk_at dksX3_of_4 4 rfl rfl)
theorem dX3_of_99 : decode cX3_of 99 = .ok (.invokevirtual 69, 3) := dk_182 0 69 (dk_at dksX3_of_4 5 rfl rfl)
theorem dX3_of_102 : decode cX3_of 102 = .ok (.checkcast 47, 3) := dk_192 0 47 (dk_at dksX3_of_4 8 rfl rfl)
theorem dX3_of_105 : decode cX3_of 105 = .ok (.getfield 82, 3) := dk_180 0 82 (dk_at dksX3_of_4 11 rfl rfl)
theorem dX3_of_108 : decode cX3_of 108 = .ok (.invokestatic 61, 3) := dk_184 0 61 (dk_at dksX3_of_4 14 rfl rfl)
theorem dX3_of_111 : decode cX3_of 111 = .ok (.iload_n 3, 1) := dk_29 (dk_at dksX3_of_4 17 rfl rfl)
theorem dX3_of_112 : decode cX3_of 112 = .ok (.invokestatic 61, 3) := dk_184 0 61 (dk_at dksX3_of_4 18 rfl rfl)
theorem dX3_of_115 : decode cX3_of 115 = .ok (.iload_n 1, 1) := dk_27 (dk_at dksX3_of_4 21 rfl rfl)
theorem dX3_of_116 : decode cX3_of 116 = .ok (.iload_n 2, 1) := dk_28 (dk_at dksX3_of_4 22 rfl rfl)
theorem dX3_of_117 : decode cX3_of 117 = .ok (.iload_n 3, 1) := dk_29 (dk_at dksX3_of_4 23 rfl rfl)
theorem dX3_of_118 : decode cX3_of 118 = .ok (.invokevirtual 65, 3) := dk_182 0 65 (dk_at dksX3_of_5 0 rfl rfl)
theorem dX3_of_121 : decode cX3_of 121 = .ok (.ireturn, 1) := dk_172 (dk_at dksX3_of_5 3 rfl rfl)
abbrev cX3_comes : ByteArray := prog_15_method_22_code
def yX3_comes : MethodName := ⟨RX3, "comes", "(LKeygroveModel$Person;LKeygroveModel$Epoch;)V"⟩
def dkwX3_comes_2 : List UInt8 := [180, 0, 217, 29, 46, 183, 0, 219, 83, 132, 3, 1, 167, 255, 214, 177]
abbrev dktX3_comes_2 : List UInt8 := dkwX3_comes_2 ++ []
def dkwX3_comes_1 : List UInt8 := [180, 0, 195, 29, 44, 180, 0, 217, 29, 46, 2, 160, 0, 7, 1, 167, 0, 16, 187, 0, 200, 89, 44]
abbrev dktX3_comes_1 : List UInt8 := dkwX3_comes_1 ++ dktX3_comes_2
def dkwX3_comes_0 : List UInt8 := [43, 44, 180, 0, 214, 181, 0, 178, 43, 2, 181, 0, 184, 3, 62, 29, 16, 16, 162, 0, 42, 43]
abbrev dktX3_comes_0 : List UInt8 := dkwX3_comes_0 ++ dktX3_comes_1
theorem dksX3_comes_0 : cX3_comes.data.toList.drop 0 = dktX3_comes_0 := by decide +kernel
theorem dksX3_comes_1 : cX3_comes.data.toList.drop 22 = dktX3_comes_1 := dk_seg dksX3_comes_0 22 rfl rfl
theorem dksX3_comes_2 : cX3_comes.data.toList.drop 45 = dktX3_comes_2 := dk_seg dksX3_comes_1 23 rfl rfl
theorem dX3_comes_0 : decode cX3_comes 0 = .ok (.aload_n 1, 1) := dk_43 (dk_at dksX3_comes_0 0 rfl rfl)
theorem dX3_comes_1 : decode cX3_comes 1 = .ok (.aload_n 2, 1) := dk_44 (dk_at dksX3_comes_0 1 rfl rfl)
theorem dX3_comes_2 : decode cX3_comes 2 = .ok (.getfield 214, 3) := dk_180 0 214 (dk_at dksX3_comes_0 2 rfl rfl)
theorem dX3_comes_5 : decode cX3_comes 5 = .ok (.putfield 178, 3) := dk_181 0 178 (dk_at dksX3_comes_0 5 rfl rfl)
theorem dX3_comes_8 : decode cX3_comes 8 = .ok (.aload_n 1, 1) := dk_43 (dk_at dksX3_comes_0 8 rfl rfl)
theorem dX3_comes_9 : decode cX3_comes 9 = .ok (.iconst (-1), 1) := dk_2 (dk_at dksX3_comes_0 9 rfl rfl)
theorem dX3_comes_10 : decode cX3_comes 10 = .ok (.putfield 184, 3) := dk_181 0 184 (dk_at dksX3_comes_0 10 rfl rfl)
theorem dX3_comes_13 : decode cX3_comes 13 = .ok (.iconst 0, 1) := dk_3 (dk_at dksX3_comes_0 13 rfl rfl)
theorem dX3_comes_14 : decode cX3_comes 14 = .ok (.istore_n 3, 1) := dk_62 (dk_at dksX3_comes_0 14 rfl rfl)
theorem dX3_comes_15 : decode cX3_comes 15 = .ok (.iload_n 3, 1) := dk_29 (dk_at dksX3_comes_0 15 rfl rfl)
theorem dX3_comes_16 : decode cX3_comes 16 = .ok (.bipush 16, 2) := dk_16 16 (dk_at dksX3_comes_0 16 rfl rfl)
theorem dX3_comes_18 : decode cX3_comes 18 = .ok (.if_icmp .ge 42, 3) := dk_162 0 42 (dk_at dksX3_comes_0 18 rfl rfl)
theorem dX3_comes_21 : decode cX3_comes 21 = .ok (.aload_n 1, 1) := dk_43 (dk_at dksX3_comes_0 21 rfl rfl)
theorem dX3_comes_22 : decode cX3_comes 22 = .ok (.getfield 195, 3) := dk_180 0 195 (dk_at dksX3_comes_1 0 rfl rfl)
theorem dX3_comes_25 : decode cX3_comes 25 = .ok (.iload_n 3, 1) := dk_29 (dk_at dksX3_comes_1 3 rfl rfl)
theorem dX3_comes_26 : decode cX3_comes 26 = .ok (.aload_n 2, 1) := dk_44 (dk_at dksX3_comes_1 4 rfl rfl)
theorem dX3_comes_27 : decode cX3_comes 27 = .ok (.getfield 217, 3) := dk_180 0 217 (dk_at dksX3_comes_1 5 rfl rfl)
theorem dX3_comes_30 : decode cX3_comes 30 = .ok (.iload_n 3, 1) := dk_29 (dk_at dksX3_comes_1 8 rfl rfl)
theorem dX3_comes_31 : decode cX3_comes 31 = .ok (.iaload, 1) := dk_46 (dk_at dksX3_comes_1 9 rfl rfl)
theorem dX3_comes_32 : decode cX3_comes 32 = .ok (.iconst (-1), 1) := dk_2 (dk_at dksX3_comes_1 10 rfl rfl)
theorem dX3_comes_33 : decode cX3_comes 33 = .ok (.if_icmp .ne 7, 3) := dk_160 0 7 (dk_at dksX3_comes_1 11 rfl rfl)
theorem dX3_comes_36 : decode cX3_comes 36 = .ok (.aconst_null, 1) := dk_1 (dk_at dksX3_comes_1 14 rfl rfl)
theorem dX3_comes_37 : decode cX3_comes 37 = .ok (.goto 16, 3) := dk_167 0 16 (dk_at dksX3_comes_1 15 rfl rfl)
theorem dX3_comes_40 : decode cX3_comes 40 = .ok (.new 200, 3) := dk_187 0 200 (dk_at dksX3_comes_1 18 rfl rfl)
theorem dX3_comes_43 : decode cX3_comes 43 = .ok (.dup, 1) := dk_89 (dk_at dksX3_comes_1 21 rfl rfl)
theorem dX3_comes_44 : decode cX3_comes 44 = .ok (.aload_n 2, 1) := dk_44 (dk_at dksX3_comes_1 22 rfl rfl)
theorem dX3_comes_45 : decode cX3_comes 45 = .ok (.getfield 217, 3) := dk_180 0 217 (dk_at dksX3_comes_2 0 rfl rfl)
theorem dX3_comes_48 : decode cX3_comes 48 = .ok (.iload_n 3, 1) := dk_29 (dk_at dksX3_comes_2 3 rfl rfl)
theorem dX3_comes_49 : decode cX3_comes 49 = .ok (.iaload, 1) := dk_46 (dk_at dksX3_comes_2 4 rfl rfl)
theorem dX3_comes_50 : decode cX3_comes 50 = .ok (.invokespecial 219, 3) := dk_183 0 219 (dk_at dksX3_comes_2 5 rfl rfl)
theorem dX3_comes_53 : decode cX3_comes 53 = .ok (.aastore, 1) := dk_83 (dk_at dksX3_comes_2 8 rfl rfl)
theorem dX3_comes_54 : decode cX3_comes 54 = .ok (.iinc 3 1, 3) := dk_132 3 1 (dk_at dksX3_comes_2 9 rfl rfl)
theorem dX3_comes_57 : decode cX3_comes 57 = .ok (.goto (-42), 3) := dk_167 255 214 (dk_at dksX3_comes_2 12 rfl rfl)
theorem dX3_comes_60 : decode cX3_comes 60 = .ok (.return_, 1) := dk_177 (dk_at dksX3_comes_2 15 rfl rfl)
abbrev cX3_seed : ByteArray := prog_15_method_29_code
def yX3_seed : MethodName := ⟨RX3, "seed", "(I)I"⟩
def dkwX3_seed_0 : List UInt8 := [42, 3, 181, 0, 41, 42, 180, 0, 37, 61, 42, 27, 181, 0, 37, 28, 172]
abbrev dktX3_seed_0 : List UInt8 := dkwX3_seed_0 ++ []
theorem dksX3_seed_0 : cX3_seed.data.toList.drop 0 = dktX3_seed_0 := by decide +kernel
theorem dX3_seed_0 : decode cX3_seed 0 = .ok (.aload_n 0, 1) := dk_42 (dk_at dksX3_seed_0 0 rfl rfl)
theorem dX3_seed_1 : decode cX3_seed 1 = .ok (.iconst 0, 1) := dk_3 (dk_at dksX3_seed_0 1 rfl rfl)
theorem dX3_seed_2 : decode cX3_seed 2 = .ok (.putfield 41, 3) := dk_181 0 41 (dk_at dksX3_seed_0 2 rfl rfl)
theorem dX3_seed_5 : decode cX3_seed 5 = .ok (.aload_n 0, 1) := dk_42 (dk_at dksX3_seed_0 5 rfl rfl)
theorem dX3_seed_6 : decode cX3_seed 6 = .ok (.getfield 37, 3) := dk_180 0 37 (dk_at dksX3_seed_0 6 rfl rfl)
theorem dX3_seed_9 : decode cX3_seed 9 = .ok (.istore_n 2, 1) := dk_61 (dk_at dksX3_seed_0 9 rfl rfl)
theorem dX3_seed_10 : decode cX3_seed 10 = .ok (.aload_n 0, 1) := dk_42 (dk_at dksX3_seed_0 10 rfl rfl)
theorem dX3_seed_11 : decode cX3_seed 11 = .ok (.iload_n 1, 1) := dk_27 (dk_at dksX3_seed_0 11 rfl rfl)
theorem dX3_seed_12 : decode cX3_seed 12 = .ok (.putfield 37, 3) := dk_181 0 37 (dk_at dksX3_seed_0 12 rfl rfl)
theorem dX3_seed_15 : decode cX3_seed 15 = .ok (.iload_n 2, 1) := dk_28 (dk_at dksX3_seed_0 15 rfl rfl)
theorem dX3_seed_16 : decode cX3_seed 16 = .ok (.ireturn, 1) := dk_172 (dk_at dksX3_seed_0 16 rfl rfl)
abbrev cX3_epoch : ByteArray := prog_15_method_31_code
def yX3_epoch : MethodName := ⟨RX3, "epoch", "()I"⟩
def dkwX3_epoch_1 : List UInt8 := [167, 0, 12, 42, 180, 0, 28, 182, 0, 56, 4, 100, 172]
abbrev dktX3_epoch_1 : List UInt8 := dkwX3_epoch_1 ++ []
def dkwX3_epoch_0 : List UInt8 := [42, 42, 180, 0, 28, 182, 0, 250, 153, 0, 7, 4, 167, 0, 4, 3, 182, 0, 230, 153, 0, 7, 3]
abbrev dktX3_epoch_0 : List UInt8 := dkwX3_epoch_0 ++ dktX3_epoch_1
theorem dksX3_epoch_0 : cX3_epoch.data.toList.drop 0 = dktX3_epoch_0 := by decide +kernel
theorem dksX3_epoch_1 : cX3_epoch.data.toList.drop 23 = dktX3_epoch_1 := dk_seg dksX3_epoch_0 23 rfl rfl
theorem dX3_epoch_0 : decode cX3_epoch 0 = .ok (.aload_n 0, 1) := dk_42 (dk_at dksX3_epoch_0 0 rfl rfl)
theorem dX3_epoch_1 : decode cX3_epoch 1 = .ok (.aload_n 0, 1) := dk_42 (dk_at dksX3_epoch_0 1 rfl rfl)
theorem dX3_epoch_2 : decode cX3_epoch 2 = .ok (.getfield 28, 3) := dk_180 0 28 (dk_at dksX3_epoch_0 2 rfl rfl)
theorem dX3_epoch_5 : decode cX3_epoch 5 = .ok (.invokevirtual 250, 3) := dk_182 0 250 (dk_at dksX3_epoch_0 5 rfl rfl)
theorem dX3_epoch_8 : decode cX3_epoch 8 = .ok (.ifCond .eq 7, 3) := dk_153 0 7 (dk_at dksX3_epoch_0 8 rfl rfl)
theorem dX3_epoch_11 : decode cX3_epoch 11 = .ok (.iconst 1, 1) := dk_4 (dk_at dksX3_epoch_0 11 rfl rfl)
theorem dX3_epoch_12 : decode cX3_epoch 12 = .ok (.goto 4, 3) := dk_167 0 4 (dk_at dksX3_epoch_0 12 rfl rfl)
theorem dX3_epoch_15 : decode cX3_epoch 15 = .ok (.iconst 0, 1) := dk_3 (dk_at dksX3_epoch_0 15 rfl rfl)
theorem dX3_epoch_16 : decode cX3_epoch 16 = .ok (.invokevirtual 230, 3) := dk_182 0 230 (dk_at dksX3_epoch_0 16 rfl rfl)
theorem dX3_epoch_19 : decode cX3_epoch 19 = .ok (.ifCond .eq 7, 3) := dk_153 0 7 (dk_at dksX3_epoch_0 19 rfl rfl)
theorem dX3_epoch_22 : decode cX3_epoch 22 = .ok (.iconst 0, 1) := dk_3 (dk_at dksX3_epoch_0 22 rfl rfl)
theorem dX3_epoch_23 : decode cX3_epoch 23 = .ok (.goto 12, 3) := dk_167 0 12 (dk_at dksX3_epoch_1 0 rfl rfl)
theorem dX3_epoch_26 : decode cX3_epoch 26 = .ok (.aload_n 0, 1) := dk_42 (dk_at dksX3_epoch_1 3 rfl rfl)
theorem dX3_epoch_27 : decode cX3_epoch 27 = .ok (.getfield 28, 3) := dk_180 0 28 (dk_at dksX3_epoch_1 4 rfl rfl)
theorem dX3_epoch_30 : decode cX3_epoch 30 = .ok (.invokevirtual 56, 3) := dk_182 0 56 (dk_at dksX3_epoch_1 7 rfl rfl)
theorem dX3_epoch_33 : decode cX3_epoch 33 = .ok (.iconst 1, 1) := dk_4 (dk_at dksX3_epoch_1 10 rfl rfl)
theorem dX3_epoch_34 : decode cX3_epoch 34 = .ok (.isub, 1) := dk_100 (dk_at dksX3_epoch_1 11 rfl rfl)
theorem dX3_epoch_35 : decode cX3_epoch 35 = .ok (.ireturn, 1) := dk_172 (dk_at dksX3_epoch_1 12 rfl rfl)
abbrev cX3_epochOf : ByteArray := prog_15_method_33_code
def yX3_epochOf : MethodName := ⟨RX3, "epochOf", "(I)I"⟩
def dkwX3_epochOf_1 : List UInt8 := [180, 0, 178, 172]
abbrev dktX3_epochOf_1 : List UInt8 := dkwX3_epochOf_1 ++ []
def dkwX3_epochOf_0 : List UInt8 := [42, 27, 182, 1, 11, 153, 0, 7, 3, 167, 0, 17, 42, 180, 0, 22, 27, 182, 0, 69, 192, 0, 157]
abbrev dktX3_epochOf_0 : List UInt8 := dkwX3_epochOf_0 ++ dktX3_epochOf_1
theorem dksX3_epochOf_0 : cX3_epochOf.data.toList.drop 0 = dktX3_epochOf_0 := by decide +kernel
theorem dksX3_epochOf_1 : cX3_epochOf.data.toList.drop 23 = dktX3_epochOf_1 := dk_seg dksX3_epochOf_0 23 rfl rfl
theorem dX3_epochOf_0 : decode cX3_epochOf 0 = .ok (.aload_n 0, 1) := dk_42 (dk_at dksX3_epochOf_0 0 rfl rfl)
theorem dX3_epochOf_1 : decode cX3_epochOf 1 = .ok (.iload_n 1, 1) := dk_27 (dk_at dksX3_epochOf_0 1 rfl rfl)
theorem dX3_epochOf_2 : decode cX3_epochOf 2 = .ok (.invokevirtual 267, 3) := dk_182 1 11 (dk_at dksX3_epochOf_0 2 rfl rfl)
theorem dX3_epochOf_5 : decode cX3_epochOf 5 = .ok (.ifCond .eq 7, 3) := dk_153 0 7 (dk_at dksX3_epochOf_0 5 rfl rfl)
theorem dX3_epochOf_8 : decode cX3_epochOf 8 = .ok (.iconst 0, 1) := dk_3 (dk_at dksX3_epochOf_0 8 rfl rfl)
theorem dX3_epochOf_9 : decode cX3_epochOf 9 = .ok (.goto 17, 3) := dk_167 0 17 (dk_at dksX3_epochOf_0 9 rfl rfl)
theorem dX3_epochOf_12 : decode cX3_epochOf 12 = .ok (.aload_n 0, 1) := dk_42 (dk_at dksX3_epochOf_0 12 rfl rfl)
theorem dX3_epochOf_13 : decode cX3_epochOf 13 = .ok (.getfield 22, 3) := dk_180 0 22 (dk_at dksX3_epochOf_0 13 rfl rfl)
theorem dX3_epochOf_16 : decode cX3_epochOf 16 = .ok (.iload_n 1, 1) := dk_27 (dk_at dksX3_epochOf_0 16 rfl rfl)
theorem dX3_epochOf_17 : decode cX3_epochOf 17 = .ok (.invokevirtual 69, 3) := dk_182 0 69 (dk_at dksX3_epochOf_0 17 rfl rfl)
theorem dX3_epochOf_20 : decode cX3_epochOf 20 = .ok (.checkcast 157, 3) := dk_192 0 157 (dk_at dksX3_epochOf_0 20 rfl rfl)
theorem dX3_epochOf_23 : decode cX3_epochOf 23 = .ok (.getfield 178, 3) := dk_180 0 178 (dk_at dksX3_epochOf_1 0 rfl rfl)
theorem dX3_epochOf_26 : decode cX3_epochOf 26 = .ok (.ireturn, 1) := dk_172 (dk_at dksX3_epochOf_1 3 rfl rfl)
abbrev cX3_isInNone : ByteArray := prog_15_method_32_code
def yX3_isInNone : MethodName := ⟨RX3, "isInNone", "(I)Z"⟩
def dkwX3_isInNone_1 : List UInt8 := [180, 0, 178, 2, 160, 0, 7, 5, 167, 0, 4, 3, 182, 0, 230, 172]
abbrev dktX3_isInNone_1 : List UInt8 := dkwX3_isInNone_1 ++ []
def dkwX3_isInNone_0 : List UInt8 := [42, 42, 27, 182, 0, 226, 154, 0, 7, 4, 167, 0, 26, 42, 180, 0, 22, 27, 182, 0, 69, 192, 0, 157]
abbrev dktX3_isInNone_0 : List UInt8 := dkwX3_isInNone_0 ++ dktX3_isInNone_1
theorem dksX3_isInNone_0 : cX3_isInNone.data.toList.drop 0 = dktX3_isInNone_0 := by decide +kernel
theorem dksX3_isInNone_1 : cX3_isInNone.data.toList.drop 24 = dktX3_isInNone_1 := dk_seg dksX3_isInNone_0 24 rfl rfl
theorem dX3_isInNone_0 : decode cX3_isInNone 0 = .ok (.aload_n 0, 1) := dk_42 (dk_at dksX3_isInNone_0 0 rfl rfl)
theorem dX3_isInNone_1 : decode cX3_isInNone 1 = .ok (.aload_n 0, 1) := dk_42 (dk_at dksX3_isInNone_0 1 rfl rfl)
theorem dX3_isInNone_2 : decode cX3_isInNone 2 = .ok (.iload_n 1, 1) := dk_27 (dk_at dksX3_isInNone_0 2 rfl rfl)
theorem dX3_isInNone_3 : decode cX3_isInNone 3 = .ok (.invokevirtual 226, 3) := dk_182 0 226 (dk_at dksX3_isInNone_0 3 rfl rfl)
theorem dX3_isInNone_6 : decode cX3_isInNone 6 = .ok (.ifCond .ne 7, 3) := dk_154 0 7 (dk_at dksX3_isInNone_0 6 rfl rfl)
theorem dX3_isInNone_9 : decode cX3_isInNone 9 = .ok (.iconst 1, 1) := dk_4 (dk_at dksX3_isInNone_0 9 rfl rfl)
theorem dX3_isInNone_10 : decode cX3_isInNone 10 = .ok (.goto 26, 3) := dk_167 0 26 (dk_at dksX3_isInNone_0 10 rfl rfl)
theorem dX3_isInNone_13 : decode cX3_isInNone 13 = .ok (.aload_n 0, 1) := dk_42 (dk_at dksX3_isInNone_0 13 rfl rfl)
theorem dX3_isInNone_14 : decode cX3_isInNone 14 = .ok (.getfield 22, 3) := dk_180 0 22 (dk_at dksX3_isInNone_0 14 rfl rfl)
theorem dX3_isInNone_17 : decode cX3_isInNone 17 = .ok (.iload_n 1, 1) := dk_27 (dk_at dksX3_isInNone_0 17 rfl rfl)
theorem dX3_isInNone_18 : decode cX3_isInNone 18 = .ok (.invokevirtual 69, 3) := dk_182 0 69 (dk_at dksX3_isInNone_0 18 rfl rfl)
theorem dX3_isInNone_21 : decode cX3_isInNone 21 = .ok (.checkcast 157, 3) := dk_192 0 157 (dk_at dksX3_isInNone_0 21 rfl rfl)
theorem dX3_isInNone_24 : decode cX3_isInNone 24 = .ok (.getfield 178, 3) := dk_180 0 178 (dk_at dksX3_isInNone_1 0 rfl rfl)
theorem dX3_isInNone_27 : decode cX3_isInNone 27 = .ok (.iconst (-1), 1) := dk_2 (dk_at dksX3_isInNone_1 3 rfl rfl)
theorem dX3_isInNone_28 : decode cX3_isInNone 28 = .ok (.if_icmp .ne 7, 3) := dk_160 0 7 (dk_at dksX3_isInNone_1 4 rfl rfl)
theorem dX3_isInNone_31 : decode cX3_isInNone 31 = .ok (.iconst 2, 1) := dk_5 (dk_at dksX3_isInNone_1 7 rfl rfl)
theorem dX3_isInNone_32 : decode cX3_isInNone 32 = .ok (.goto 4, 3) := dk_167 0 4 (dk_at dksX3_isInNone_1 8 rfl rfl)
theorem dX3_isInNone_35 : decode cX3_isInNone 35 = .ok (.iconst 0, 1) := dk_3 (dk_at dksX3_isInNone_1 11 rfl rfl)
theorem dX3_isInNone_36 : decode cX3_isInNone 36 = .ok (.invokevirtual 230, 3) := dk_182 0 230 (dk_at dksX3_isInNone_1 12 rfl rfl)
theorem dX3_isInNone_39 : decode cX3_isInNone 39 = .ok (.ireturn, 1) := dk_172 (dk_at dksX3_isInNone_1 15 rfl rfl)
abbrev cX3_leafOf : ByteArray := prog_15_method_34_code
def yX3_leafOf : MethodName := ⟨RX3, "leafOf", "(I)I"⟩
def dkwX3_leafOf_1 : List UInt8 := [180, 1, 4, 172]
abbrev dktX3_leafOf_1 : List UInt8 := dkwX3_leafOf_1 ++ []
def dkwX3_leafOf_0 : List UInt8 := [42, 27, 182, 1, 11, 153, 0, 7, 3, 167, 0, 17, 42, 180, 0, 22, 27, 182, 0, 69, 192, 0, 157]
abbrev dktX3_leafOf_0 : List UInt8 := dkwX3_leafOf_0 ++ dktX3_leafOf_1
theorem dksX3_leafOf_0 : cX3_leafOf.data.toList.drop 0 = dktX3_leafOf_0 := by decide +kernel
theorem dksX3_leafOf_1 : cX3_leafOf.data.toList.drop 23 = dktX3_leafOf_1 := dk_seg dksX3_leafOf_0 23 rfl rfl
theorem dX3_leafOf_0 : decode cX3_leafOf 0 = .ok (.aload_n 0, 1) := dk_42 (dk_at dksX3_leafOf_0 0 rfl rfl)
theorem dX3_leafOf_1 : decode cX3_leafOf 1 = .ok (.iload_n 1, 1) := dk_27 (dk_at dksX3_leafOf_0 1 rfl rfl)
theorem dX3_leafOf_2 : decode cX3_leafOf 2 = .ok (.invokevirtual 267, 3) := dk_182 1 11 (dk_at dksX3_leafOf_0 2 rfl rfl)
theorem dX3_leafOf_5 : decode cX3_leafOf 5 = .ok (.ifCond .eq 7, 3) := dk_153 0 7 (dk_at dksX3_leafOf_0 5 rfl rfl)
theorem dX3_leafOf_8 : decode cX3_leafOf 8 = .ok (.iconst 0, 1) := dk_3 (dk_at dksX3_leafOf_0 8 rfl rfl)
theorem dX3_leafOf_9 : decode cX3_leafOf 9 = .ok (.goto 17, 3) := dk_167 0 17 (dk_at dksX3_leafOf_0 9 rfl rfl)
theorem dX3_leafOf_12 : decode cX3_leafOf 12 = .ok (.aload_n 0, 1) := dk_42 (dk_at dksX3_leafOf_0 12 rfl rfl)
theorem dX3_leafOf_13 : decode cX3_leafOf 13 = .ok (.getfield 22, 3) := dk_180 0 22 (dk_at dksX3_leafOf_0 13 rfl rfl)
theorem dX3_leafOf_16 : decode cX3_leafOf 16 = .ok (.iload_n 1, 1) := dk_27 (dk_at dksX3_leafOf_0 16 rfl rfl)
theorem dX3_leafOf_17 : decode cX3_leafOf 17 = .ok (.invokevirtual 69, 3) := dk_182 0 69 (dk_at dksX3_leafOf_0 17 rfl rfl)
theorem dX3_leafOf_20 : decode cX3_leafOf 20 = .ok (.checkcast 157, 3) := dk_192 0 157 (dk_at dksX3_leafOf_0 20 rfl rfl)
theorem dX3_leafOf_23 : decode cX3_leafOf 23 = .ok (.getfield 260, 3) := dk_180 1 4 (dk_at dksX3_leafOf_1 0 rfl rfl)
theorem dX3_leafOf_26 : decode cX3_leafOf 26 = .ok (.ireturn, 1) := dk_172 (dk_at dksX3_leafOf_1 3 rfl rfl)
abbrev cX3_isMember : ByteArray := prog_15_method_37_code
def yX3_isMember : MethodName := ⟨RX3, "isMember", "(II)Z"⟩
def dkwX3_isMember_2 : List UInt8 := [153, 0, 7, 4, 167, 0, 4, 3, 172]
abbrev dktX3_isMember_2 : List UInt8 := dkwX3_isMember_2 ++ []
def dkwX3_isMember_1 : List UInt8 := [182, 0, 230, 154, 0, 26, 42, 27, 42, 180, 0, 28, 28, 182, 0, 69, 192, 0, 130, 182, 1, 17]
abbrev dktX3_isMember_1 : List UInt8 := dkwX3_isMember_1 ++ dktX3_isMember_2
def dkwX3_isMember_0 : List UInt8 := [42, 42, 27, 182, 0, 226, 153, 0, 15, 42, 28, 182, 1, 14, 153, 0, 7, 3, 167, 0, 4, 4]
abbrev dktX3_isMember_0 : List UInt8 := dkwX3_isMember_0 ++ dktX3_isMember_1
theorem dksX3_isMember_0 : cX3_isMember.data.toList.drop 0 = dktX3_isMember_0 := by decide +kernel
theorem dksX3_isMember_1 : cX3_isMember.data.toList.drop 22 = dktX3_isMember_1 := dk_seg dksX3_isMember_0 22 rfl rfl
theorem dksX3_isMember_2 : cX3_isMember.data.toList.drop 44 = dktX3_isMember_2 := dk_seg dksX3_isMember_1 22 rfl rfl
theorem dX3_isMember_0 : decode cX3_isMember 0 = .ok (.aload_n 0, 1) := dk_42 (dk_at dksX3_isMember_0 0 rfl rfl)
theorem dX3_isMember_1 : decode cX3_isMember 1 = .ok (.aload_n 0, 1) := dk_42 (dk_at dksX3_isMember_0 1 rfl rfl)
theorem dX3_isMember_2 : decode cX3_isMember 2 = .ok (.iload_n 1, 1) := dk_27 (dk_at dksX3_isMember_0 2 rfl rfl)
theorem dX3_isMember_3 : decode cX3_isMember 3 = .ok (.invokevirtual 226, 3) := dk_182 0 226 (dk_at dksX3_isMember_0 3 rfl rfl)
theorem dX3_isMember_6 : decode cX3_isMember 6 = .ok (.ifCond .eq 15, 3) := dk_153 0 15 (dk_at dksX3_isMember_0 6 rfl rfl)
theorem dX3_isMember_9 : decode cX3_isMember 9 = .ok (.aload_n 0, 1) := dk_42 (dk_at dksX3_isMember_0 9 rfl rfl)
theorem dX3_isMember_10 : decode cX3_isMember 10 = .ok (.iload_n 2, 1) := dk_28 (dk_at dksX3_isMember_0 10 rfl rfl)
theorem dX3_isMember_11 : decode cX3_isMember 11 = .ok (.invokevirtual 270, 3) := dk_182 1 14 (dk_at dksX3_isMember_0 11 rfl rfl)
theorem dX3_isMember_14 : decode cX3_isMember 14 = .ok (.ifCond .eq 7, 3) := dk_153 0 7 (dk_at dksX3_isMember_0 14 rfl rfl)
theorem dX3_isMember_17 : decode cX3_isMember 17 = .ok (.iconst 0, 1) := dk_3 (dk_at dksX3_isMember_0 17 rfl rfl)
theorem dX3_isMember_18 : decode cX3_isMember 18 = .ok (.goto 4, 3) := dk_167 0 4 (dk_at dksX3_isMember_0 18 rfl rfl)
theorem dX3_isMember_21 : decode cX3_isMember 21 = .ok (.iconst 1, 1) := dk_4 (dk_at dksX3_isMember_0 21 rfl rfl)
theorem dX3_isMember_22 : decode cX3_isMember 22 = .ok (.invokevirtual 230, 3) := dk_182 0 230 (dk_at dksX3_isMember_1 0 rfl rfl)
theorem dX3_isMember_25 : decode cX3_isMember 25 = .ok (.ifCond .ne 26, 3) := dk_154 0 26 (dk_at dksX3_isMember_1 3 rfl rfl)
theorem dX3_isMember_28 : decode cX3_isMember 28 = .ok (.aload_n 0, 1) := dk_42 (dk_at dksX3_isMember_1 6 rfl rfl)
theorem dX3_isMember_29 : decode cX3_isMember 29 = .ok (.iload_n 1, 1) := dk_27 (dk_at dksX3_isMember_1 7 rfl rfl)
theorem dX3_isMember_30 : decode cX3_isMember 30 = .ok (.aload_n 0, 1) := dk_42 (dk_at dksX3_isMember_1 8 rfl rfl)
theorem dX3_isMember_31 : decode cX3_isMember 31 = .ok (.getfield 28, 3) := dk_180 0 28 (dk_at dksX3_isMember_1 9 rfl rfl)
theorem dX3_isMember_34 : decode cX3_isMember 34 = .ok (.iload_n 2, 1) := dk_28 (dk_at dksX3_isMember_1 12 rfl rfl)
theorem dX3_isMember_35 : decode cX3_isMember 35 = .ok (.invokevirtual 69, 3) := dk_182 0 69 (dk_at dksX3_isMember_1 13 rfl rfl)
theorem dX3_isMember_38 : decode cX3_isMember 38 = .ok (.checkcast 130, 3) := dk_192 0 130 (dk_at dksX3_isMember_1 16 rfl rfl)
theorem dX3_isMember_41 : decode cX3_isMember 41 = .ok (.invokevirtual 273, 3) := dk_182 1 17 (dk_at dksX3_isMember_1 19 rfl rfl)
theorem dX3_isMember_44 : decode cX3_isMember 44 = .ok (.ifCond .eq 7, 3) := dk_153 0 7 (dk_at dksX3_isMember_2 0 rfl rfl)
theorem dX3_isMember_47 : decode cX3_isMember 47 = .ok (.iconst 1, 1) := dk_4 (dk_at dksX3_isMember_2 3 rfl rfl)
theorem dX3_isMember_48 : decode cX3_isMember 48 = .ok (.goto 4, 3) := dk_167 0 4 (dk_at dksX3_isMember_2 4 rfl rfl)
theorem dX3_isMember_51 : decode cX3_isMember 51 = .ok (.iconst 0, 1) := dk_3 (dk_at dksX3_isMember_2 7 rfl rfl)
theorem dX3_isMember_52 : decode cX3_isMember 52 = .ok (.ireturn, 1) := dk_172 (dk_at dksX3_isMember_2 8 rfl rfl)
abbrev cX3_isEpoch : ByteArray := prog_15_method_36_code
def yX3_isEpoch : MethodName := ⟨RX3, "isEpoch", "(I)Z"⟩
def dkwX3_isEpoch_0 : List UInt8 := [27, 3, 42, 180, 0, 28, 182, 0, 56, 4, 100, 184, 0, 222, 172]
abbrev dktX3_isEpoch_0 : List UInt8 := dkwX3_isEpoch_0 ++ []
theorem dksX3_isEpoch_0 : cX3_isEpoch.data.toList.drop 0 = dktX3_isEpoch_0 := by decide +kernel
theorem dX3_isEpoch_0 : decode cX3_isEpoch 0 = .ok (.iload_n 1, 1) := dk_27 (dk_at dksX3_isEpoch_0 0 rfl rfl)
theorem dX3_isEpoch_1 : decode cX3_isEpoch 1 = .ok (.iconst 0, 1) := dk_3 (dk_at dksX3_isEpoch_0 1 rfl rfl)
theorem dX3_isEpoch_2 : decode cX3_isEpoch 2 = .ok (.aload_n 0, 1) := dk_42 (dk_at dksX3_isEpoch_0 2 rfl rfl)
theorem dX3_isEpoch_3 : decode cX3_isEpoch 3 = .ok (.getfield 28, 3) := dk_180 0 28 (dk_at dksX3_isEpoch_0 3 rfl rfl)
theorem dX3_isEpoch_6 : decode cX3_isEpoch 6 = .ok (.invokevirtual 56, 3) := dk_182 0 56 (dk_at dksX3_isEpoch_0 6 rfl rfl)
theorem dX3_isEpoch_9 : decode cX3_isEpoch 9 = .ok (.iconst 1, 1) := dk_4 (dk_at dksX3_isEpoch_0 9 rfl rfl)
theorem dX3_isEpoch_10 : decode cX3_isEpoch 10 = .ok (.isub, 1) := dk_100 (dk_at dksX3_isEpoch_0 10 rfl rfl)
theorem dX3_isEpoch_11 : decode cX3_isEpoch 11 = .ok (.invokestatic 222, 3) := dk_184 0 222 (dk_at dksX3_isEpoch_0 11 rfl rfl)
theorem dX3_isEpoch_14 : decode cX3_isEpoch 14 = .ok (.ireturn, 1) := dk_172 (dk_at dksX3_isEpoch_0 14 rfl rfl)
abbrev cX3_isIn : ByteArray := prog_15_method_35_code
def yX3_isIn : MethodName := ⟨RX3, "isIn", "(ILKeygroveModel$Epoch;)Z"⟩
def dkwX3_isIn_1 : List UInt8 := [54, 6, 21, 6, 27, 160, 0, 5, 4, 172, 132, 5, 1, 167, 255, 232, 3, 172]
abbrev dktX3_isIn_1 : List UInt8 := dkwX3_isIn_1 ++ []
def dkwX3_isIn_0 : List UInt8 := [44, 180, 0, 254, 78, 45, 190, 54, 4, 3, 54, 5, 21, 5, 21, 4, 162, 0, 23, 45, 21, 5, 46]
abbrev dktX3_isIn_0 : List UInt8 := dkwX3_isIn_0 ++ dktX3_isIn_1
theorem dksX3_isIn_0 : cX3_isIn.data.toList.drop 0 = dktX3_isIn_0 := by decide +kernel
theorem dksX3_isIn_1 : cX3_isIn.data.toList.drop 23 = dktX3_isIn_1 := dk_seg dksX3_isIn_0 23 rfl rfl
theorem dX3_isIn_0 : decode cX3_isIn 0 = .ok (.aload_n 2, 1) := dk_44 (dk_at dksX3_isIn_0 0 rfl rfl)
theorem dX3_isIn_1 : decode cX3_isIn 1 = .ok (.getfield 254, 3) := dk_180 0 254 (dk_at dksX3_isIn_0 1 rfl rfl)
theorem dX3_isIn_4 : decode cX3_isIn 4 = .ok (.astore_n 3, 1) := dk_78 (dk_at dksX3_isIn_0 4 rfl rfl)
theorem dX3_isIn_5 : decode cX3_isIn 5 = .ok (.aload_n 3, 1) := dk_45 (dk_at dksX3_isIn_0 5 rfl rfl)
theorem dX3_isIn_6 : decode cX3_isIn 6 = .ok (.arraylength, 1) := dk_190 (dk_at dksX3_isIn_0 6 rfl rfl)
theorem dX3_isIn_7 : decode cX3_isIn 7 = .ok (.istore 4, 2) := dk_54 4 (dk_at dksX3_isIn_0 7 rfl rfl)
theorem dX3_isIn_9 : decode cX3_isIn 9 = .ok (.iconst 0, 1) := dk_3 (dk_at dksX3_isIn_0 9 rfl rfl)
theorem dX3_isIn_10 : decode cX3_isIn 10 = .ok (.istore 5, 2) := dk_54 5 (dk_at dksX3_isIn_0 10 rfl rfl)
theorem dX3_isIn_12 : decode cX3_isIn 12 = .ok (.iload 5, 2) := dk_21 5 (dk_at dksX3_isIn_0 12 rfl rfl)
theorem dX3_isIn_14 : decode cX3_isIn 14 = .ok (.iload 4, 2) := dk_21 4 (dk_at dksX3_isIn_0 14 rfl rfl)
theorem dX3_isIn_16 : decode cX3_isIn 16 = .ok (.if_icmp .ge 23, 3) := dk_162 0 23 (dk_at dksX3_isIn_0 16 rfl rfl)
theorem dX3_isIn_19 : decode cX3_isIn 19 = .ok (.aload_n 3, 1) := dk_45 (dk_at dksX3_isIn_0 19 rfl rfl)
theorem dX3_isIn_20 : decode cX3_isIn 20 = .ok (.iload 5, 2) := dk_21 5 (dk_at dksX3_isIn_0 20 rfl rfl)
theorem dX3_isIn_22 : decode cX3_isIn 22 = .ok (.iaload, 1) := dk_46 (dk_at dksX3_isIn_0 22 rfl rfl)
theorem dX3_isIn_23 : decode cX3_isIn 23 = .ok (.istore 6, 2) := dk_54 6 (dk_at dksX3_isIn_1 0 rfl rfl)
theorem dX3_isIn_25 : decode cX3_isIn 25 = .ok (.iload 6, 2) := dk_21 6 (dk_at dksX3_isIn_1 2 rfl rfl)
theorem dX3_isIn_27 : decode cX3_isIn 27 = .ok (.iload_n 1, 1) := dk_27 (dk_at dksX3_isIn_1 4 rfl rfl)
theorem dX3_isIn_28 : decode cX3_isIn 28 = .ok (.if_icmp .ne 5, 3) := dk_160 0 5 (dk_at dksX3_isIn_1 5 rfl rfl)
theorem dX3_isIn_31 : decode cX3_isIn 31 = .ok (.iconst 1, 1) := dk_4 (dk_at dksX3_isIn_1 8 rfl rfl)
theorem dX3_isIn_32 : decode cX3_isIn 32 = .ok (.ireturn, 1) := dk_172 (dk_at dksX3_isIn_1 9 rfl rfl)
theorem dX3_isIn_33 : decode cX3_isIn 33 = .ok (.iinc 5 1, 3) := dk_132 5 1 (dk_at dksX3_isIn_1 10 rfl rfl)
theorem dX3_isIn_36 : decode cX3_isIn 36 = .ok (.goto (-24), 3) := dk_167 255 232 (dk_at dksX3_isIn_1 13 rfl rfl)
theorem dX3_isIn_39 : decode cX3_isIn 39 = .ok (.iconst 0, 1) := dk_3 (dk_at dksX3_isIn_1 16 rfl rfl)
theorem dX3_isIn_40 : decode cX3_isIn 40 = .ok (.ireturn, 1) := dk_172 (dk_at dksX3_isIn_1 17 rfl rfl)
abbrev cX3_add : ByteArray := prog_15_method_41_code
def yX3_add : MethodName := ⟨RX3, "add", "(II)I"⟩
def dkwX3_add_7 : List UInt8 := [27, 28, 182, 1, 48, 172]
abbrev dktX3_add_7 : List UInt8 := dkwX3_add_7 ++ []
def dkwX3_add_6 : List UInt8 := [182, 0, 56, 16, 8, 160, 0, 7, 6, 167, 0, 4, 3, 182, 0, 230, 153, 0, 5, 3, 172, 42, 16, 97]
abbrev dktX3_add_6 : List UInt8 := dkwX3_add_6 ++ dktX3_add_7
def dkwX3_add_5 : List UInt8 := [154, 0, 7, 4, 167, 0, 4, 3, 54, 4, 42, 21, 4, 154, 0, 7, 5, 167, 0, 20, 42, 180, 0, 25]
abbrev dktX3_add_5 : List UInt8 := dkwX3_add_5 ++ dktX3_add_6
def dkwX3_add_4 : List UInt8 := [180, 0, 22, 29, 182, 0, 69, 192, 0, 157, 180, 0, 178, 2, 160, 0, 17, 42, 16, 97, 28, 182, 1, 44]
abbrev dktX3_add_4 : List UInt8 := dkwX3_add_4 ++ dktX3_add_5
def dkwX3_add_3 : List UInt8 := [192, 0, 159, 180, 1, 37, 154, 0, 47, 42, 29, 42, 182, 1, 40, 182, 1, 17, 154, 0, 35, 42]
abbrev dktX3_add_3 : List UInt8 := dkwX3_add_3 ++ dktX3_add_4
def dkwX3_add_2 : List UInt8 := [192, 0, 159, 180, 0, 161, 62, 42, 27, 182, 1, 34, 153, 0, 64, 42, 180, 0, 19, 28, 182, 0, 69]
abbrev dktX3_add_2 : List UInt8 := dkwX3_add_2 ++ dktX3_add_3
def dkwX3_add_1 : List UInt8 := [153, 0, 7, 3, 167, 0, 4, 4, 182, 0, 230, 153, 0, 5, 3, 172, 42, 180, 0, 19, 28, 182, 0, 69]
abbrev dktX3_add_1 : List UInt8 := dkwX3_add_1 ++ dktX3_add_2
def dkwX3_add_0 : List UInt8 := [42, 42, 27, 182, 0, 226, 153, 0, 24, 28, 3, 42, 180, 0, 19, 182, 0, 56, 4, 100, 184, 0, 222]
abbrev dktX3_add_0 : List UInt8 := dkwX3_add_0 ++ dktX3_add_1
theorem dksX3_add_0 : cX3_add.data.toList.drop 0 = dktX3_add_0 := by decide +kernel
theorem dksX3_add_1 : cX3_add.data.toList.drop 23 = dktX3_add_1 := dk_seg dksX3_add_0 23 rfl rfl
theorem dksX3_add_2 : cX3_add.data.toList.drop 47 = dktX3_add_2 := dk_seg dksX3_add_1 24 rfl rfl
theorem dksX3_add_3 : cX3_add.data.toList.drop 70 = dktX3_add_3 := dk_seg dksX3_add_2 23 rfl rfl
theorem dksX3_add_4 : cX3_add.data.toList.drop 92 = dktX3_add_4 := dk_seg dksX3_add_3 22 rfl rfl
theorem dksX3_add_5 : cX3_add.data.toList.drop 116 = dktX3_add_5 := dk_seg dksX3_add_4 24 rfl rfl
theorem dksX3_add_6 : cX3_add.data.toList.drop 140 = dktX3_add_6 := dk_seg dksX3_add_5 24 rfl rfl
theorem dksX3_add_7 : cX3_add.data.toList.drop 164 = dktX3_add_7 := dk_seg dksX3_add_6 24 rfl rfl
theorem dX3_add_0 : decode cX3_add 0 = .ok (.aload_n 0, 1) := dk_42 (dk_at dksX3_add_0 0 rfl rfl)
theorem dX3_add_1 : decode cX3_add 1 = .ok (.aload_n 0, 1) := dk_42 (dk_at dksX3_add_0 1 rfl rfl)
theorem dX3_add_2 : decode cX3_add 2 = .ok (.iload_n 1, 1) := dk_27 (dk_at dksX3_add_0 2 rfl rfl)
theorem dX3_add_3 : decode cX3_add 3 = .ok (.invokevirtual 226, 3) := dk_182 0 226 (dk_at dksX3_add_0 3 rfl rfl)
theorem dX3_add_6 : decode cX3_add 6 = .ok (.ifCond .eq 24, 3) := dk_153 0 24 (dk_at dksX3_add_0 6 rfl rfl)
theorem dX3_add_9 : decode cX3_add 9 = .ok (.iload_n 2, 1) := dk_28 (dk_at dksX3_add_0 9 rfl rfl)
theorem dX3_add_10 : decode cX3_add 10 = .ok (.iconst 0, 1) := dk_3 (dk_at dksX3_add_0 10 rfl rfl)
theorem dX3_add_11 : decode cX3_add 11 = .ok (.aload_n 0, 1) := dk_42 (dk_at dksX3_add_0 11 rfl rfl)
theorem dX3_add_12 : decode cX3_add 12 = .ok (.getfield 19, 3) := dk_180 0 19 (dk_at dksX3_add_0 12 rfl rfl)
theorem dX3_add_15 : decode cX3_add 15 = .ok (.invokevirtual 56, 3) := dk_182 0 56 (dk_at dksX3_add_0 15 rfl rfl)
theorem dX3_add_18 : decode cX3_add 18 = .ok (.iconst 1, 1) := dk_4 (dk_at dksX3_add_0 18 rfl rfl)
theorem dX3_add_19 : decode cX3_add 19 = .ok (.isub, 1) := dk_100 (dk_at dksX3_add_0 19 rfl rfl)
theorem dX3_add_20 : decode cX3_add 20 = .ok (.invokestatic 222, 3) := dk_184 0 222 (dk_at dksX3_add_0 20 rfl rfl)
theorem dX3_add_23 : decode cX3_add 23 = .ok (.ifCond .eq 7, 3) := dk_153 0 7 (dk_at dksX3_add_1 0 rfl rfl)
theorem dX3_add_26 : decode cX3_add 26 = .ok (.iconst 0, 1) := dk_3 (dk_at dksX3_add_1 3 rfl rfl)
theorem dX3_add_27 : decode cX3_add 27 = .ok (.goto 4, 3) := dk_167 0 4 (dk_at dksX3_add_1 4 rfl rfl)
theorem dX3_add_30 : decode cX3_add 30 = .ok (.iconst 1, 1) := dk_4 (dk_at dksX3_add_1 7 rfl rfl)
theorem dX3_add_31 : decode cX3_add 31 = .ok (.invokevirtual 230, 3) := dk_182 0 230 (dk_at dksX3_add_1 8 rfl rfl)
theorem dX3_add_34 : decode cX3_add 34 = .ok (.ifCond .eq 5, 3) := dk_153 0 5 (dk_at dksX3_add_1 11 rfl rfl)
theorem dX3_add_37 : decode cX3_add 37 = .ok (.iconst 0, 1) := dk_3 (dk_at dksX3_add_1 14 rfl rfl)
theorem dX3_add_38 : decode cX3_add 38 = .ok (.ireturn, 1) := dk_172 (dk_at dksX3_add_1 15 rfl rfl)
theorem dX3_add_39 : decode cX3_add 39 = .ok (.aload_n 0, 1) := dk_42 (dk_at dksX3_add_1 16 rfl rfl)
theorem dX3_add_40 : decode cX3_add 40 = .ok (.getfield 19, 3) := dk_180 0 19 (dk_at dksX3_add_1 17 rfl rfl)
theorem dX3_add_43 : decode cX3_add 43 = .ok (.iload_n 2, 1) := dk_28 (dk_at dksX3_add_1 20 rfl rfl)
theorem dX3_add_44 : decode cX3_add 44 = .ok (.invokevirtual 69, 3) := dk_182 0 69 (dk_at dksX3_add_1 21 rfl rfl)
theorem dX3_add_47 : decode cX3_add 47 = .ok (.checkcast 159, 3) := dk_192 0 159 (dk_at dksX3_add_2 0 rfl rfl)
theorem dX3_add_50 : decode cX3_add 50 = .ok (.getfield 161, 3) := dk_180 0 161 (dk_at dksX3_add_2 3 rfl rfl)
theorem dX3_add_53 : decode cX3_add 53 = .ok (.istore_n 3, 1) := dk_62 (dk_at dksX3_add_2 6 rfl rfl)
theorem dX3_add_54 : decode cX3_add 54 = .ok (.aload_n 0, 1) := dk_42 (dk_at dksX3_add_2 7 rfl rfl)
theorem dX3_add_55 : decode cX3_add 55 = .ok (.iload_n 1, 1) := dk_27 (dk_at dksX3_add_2 8 rfl rfl)
theorem dX3_add_56 : decode cX3_add 56 = .ok (.invokevirtual 290, 3) := dk_182 1 34 (dk_at dksX3_add_2 9 rfl rfl)
theorem dX3_add_59 : decode cX3_add 59 = .ok (.ifCond .eq 64, 3) := dk_153 0 64 (dk_at dksX3_add_2 12 rfl rfl)
theorem dX3_add_62 : decode cX3_add 62 = .ok (.aload_n 0, 1) := dk_42 (dk_at dksX3_add_2 15 rfl rfl)
theorem dX3_add_63 : decode cX3_add 63 = .ok (.getfield 19, 3) := dk_180 0 19 (dk_at dksX3_add_2 16 rfl rfl)
theorem dX3_add_66 : decode cX3_add 66 = .ok (.iload_n 2, 1) := dk_28 (dk_at dksX3_add_2 19 rfl rfl)
theorem dX3_add_67 : decode cX3_add 67 = .ok (.invokevirtual 69, 3) := dk_182 0 69 (dk_at dksX3_add_2 20 rfl rfl)
theorem dX3_add_70 : decode cX3_add 70 = .ok (.checkcast 159, 3) := dk_192 0 159 (dk_at dksX3_add_3 0 rfl rfl)
theorem dX3_add_73 : decode cX3_add 73 = .ok (.getfield 293, 3) := dk_180 1 37 (dk_at dksX3_add_3 3 rfl rfl)
theorem dX3_add_76 : decode cX3_add 76 = .ok (.ifCond .ne 47, 3) := dk_154 0 47 (dk_at dksX3_add_3 6 rfl rfl)
theorem dX3_add_79 : decode cX3_add 79 = .ok (.aload_n 0, 1) := dk_42 (dk_at dksX3_add_3 9 rfl rfl)
theorem dX3_add_80 : decode cX3_add 80 = .ok (.iload_n 3, 1) := dk_29 (dk_at dksX3_add_3 10 rfl rfl)
theorem dX3_add_81 : decode cX3_add 81 = .ok (.aload_n 0, 1) := dk_42 (dk_at dksX3_add_3 11 rfl rfl)
theorem dX3_add_82 : decode cX3_add 82 = .ok (.invokevirtual 296, 3) := dk_182 1 40 (dk_at dksX3_add_3 12 rfl rfl)
theorem dX3_add_85 : decode cX3_add 85 = .ok (.invokevirtual 273, 3) := dk_182 1 17 (dk_at dksX3_add_3 15 rfl rfl)
theorem dX3_add_88 : decode cX3_add 88 = .ok (.ifCond .ne 35, 3) := dk_154 0 35 (dk_at dksX3_add_3 18 rfl rfl)
theorem dX3_add_91 : decode cX3_add 91 = .ok (.aload_n 0, 1) := dk_42 (dk_at dksX3_add_3 21 rfl rfl)
theorem dX3_add_92 : decode cX3_add 92 = .ok (.getfield 22, 3) := dk_180 0 22 (dk_at dksX3_add_4 0 rfl rfl)
theorem dX3_add_95 : decode cX3_add 95 = .ok (.iload_n 3, 1) := dk_29 (dk_at dksX3_add_4 3 rfl rfl)
theorem dX3_add_96 : decode cX3_add 96 = .ok (.invokevirtual 69, 3) := dk_182 0 69 (dk_at dksX3_add_4 4 rfl rfl)
theorem dX3_add_99 : decode cX3_add 99 = .ok (.checkcast 157, 3) := dk_192 0 157 (dk_at dksX3_add_4 7 rfl rfl)
theorem dX3_add_102 : decode cX3_add 102 = .ok (.getfield 178, 3) := dk_180 0 178 (dk_at dksX3_add_4 10 rfl rfl)
theorem dX3_add_105 : decode cX3_add 105 = .ok (.iconst (-1), 1) := dk_2 (dk_at dksX3_add_4 13 rfl rfl)
theorem dX3_add_106 : decode cX3_add 106 = .ok (.if_icmp .ne 17, 3) := dk_160 0 17 (dk_at dksX3_add_4 14 rfl rfl)
theorem dX3_add_109 : decode cX3_add 109 = .ok (.aload_n 0, 1) := dk_42 (dk_at dksX3_add_4 17 rfl rfl)
theorem dX3_add_110 : decode cX3_add 110 = .ok (.bipush 97, 2) := dk_16 97 (dk_at dksX3_add_4 18 rfl rfl)
theorem dX3_add_112 : decode cX3_add 112 = .ok (.iload_n 2, 1) := dk_28 (dk_at dksX3_add_4 20 rfl rfl)
theorem dX3_add_113 : decode cX3_add 113 = .ok (.invokevirtual 300, 3) := dk_182 1 44 (dk_at dksX3_add_4 21 rfl rfl)
theorem dX3_add_116 : decode cX3_add 116 = .ok (.ifCond .ne 7, 3) := dk_154 0 7 (dk_at dksX3_add_5 0 rfl rfl)
theorem dX3_add_119 : decode cX3_add 119 = .ok (.iconst 1, 1) := dk_4 (dk_at dksX3_add_5 3 rfl rfl)
theorem dX3_add_120 : decode cX3_add 120 = .ok (.goto 4, 3) := dk_167 0 4 (dk_at dksX3_add_5 4 rfl rfl)
theorem dX3_add_123 : decode cX3_add 123 = .ok (.iconst 0, 1) := dk_3 (dk_at dksX3_add_5 7 rfl rfl)
theorem dX3_add_124 : decode cX3_add 124 = .ok (.istore 4, 2) := dk_54 4 (dk_at dksX3_add_5 8 rfl rfl)
theorem dX3_add_126 : decode cX3_add 126 = .ok (.aload_n 0, 1) := dk_42 (dk_at dksX3_add_5 10 rfl rfl)
theorem dX3_add_127 : decode cX3_add 127 = .ok (.iload 4, 2) := dk_21 4 (dk_at dksX3_add_5 11 rfl rfl)
theorem dX3_add_129 : decode cX3_add 129 = .ok (.ifCond .ne 7, 3) := dk_154 0 7 (dk_at dksX3_add_5 13 rfl rfl)
theorem dX3_add_132 : decode cX3_add 132 = .ok (.iconst 2, 1) := dk_5 (dk_at dksX3_add_5 16 rfl rfl)
theorem dX3_add_133 : decode cX3_add 133 = .ok (.goto 20, 3) := dk_167 0 20 (dk_at dksX3_add_5 17 rfl rfl)
theorem dX3_add_136 : decode cX3_add 136 = .ok (.aload_n 0, 1) := dk_42 (dk_at dksX3_add_5 20 rfl rfl)
theorem dX3_add_137 : decode cX3_add 137 = .ok (.getfield 25, 3) := dk_180 0 25 (dk_at dksX3_add_5 21 rfl rfl)
theorem dX3_add_140 : decode cX3_add 140 = .ok (.invokevirtual 56, 3) := dk_182 0 56 (dk_at dksX3_add_6 0 rfl rfl)
theorem dX3_add_143 : decode cX3_add 143 = .ok (.bipush 8, 2) := dk_16 8 (dk_at dksX3_add_6 3 rfl rfl)
theorem dX3_add_145 : decode cX3_add 145 = .ok (.if_icmp .ne 7, 3) := dk_160 0 7 (dk_at dksX3_add_6 5 rfl rfl)
theorem dX3_add_148 : decode cX3_add 148 = .ok (.iconst 3, 1) := dk_6 (dk_at dksX3_add_6 8 rfl rfl)
theorem dX3_add_149 : decode cX3_add 149 = .ok (.goto 4, 3) := dk_167 0 4 (dk_at dksX3_add_6 9 rfl rfl)
theorem dX3_add_152 : decode cX3_add 152 = .ok (.iconst 0, 1) := dk_3 (dk_at dksX3_add_6 12 rfl rfl)
theorem dX3_add_153 : decode cX3_add 153 = .ok (.invokevirtual 230, 3) := dk_182 0 230 (dk_at dksX3_add_6 13 rfl rfl)
theorem dX3_add_156 : decode cX3_add 156 = .ok (.ifCond .eq 5, 3) := dk_153 0 5 (dk_at dksX3_add_6 16 rfl rfl)
theorem dX3_add_159 : decode cX3_add 159 = .ok (.iconst 0, 1) := dk_3 (dk_at dksX3_add_6 19 rfl rfl)
theorem dX3_add_160 : decode cX3_add 160 = .ok (.ireturn, 1) := dk_172 (dk_at dksX3_add_6 20 rfl rfl)
theorem dX3_add_161 : decode cX3_add 161 = .ok (.aload_n 0, 1) := dk_42 (dk_at dksX3_add_6 21 rfl rfl)
theorem dX3_add_162 : decode cX3_add 162 = .ok (.bipush 97, 2) := dk_16 97 (dk_at dksX3_add_6 22 rfl rfl)
theorem dX3_add_164 : decode cX3_add 164 = .ok (.iload_n 1, 1) := dk_27 (dk_at dksX3_add_7 0 rfl rfl)
theorem dX3_add_165 : decode cX3_add 165 = .ok (.iload_n 2, 1) := dk_28 (dk_at dksX3_add_7 1 rfl rfl)
theorem dX3_add_166 : decode cX3_add 166 = .ok (.invokevirtual 304, 3) := dk_182 1 48 (dk_at dksX3_add_7 2 rfl rfl)
theorem dX3_add_169 : decode cX3_add 169 = .ok (.ireturn, 1) := dk_172 (dk_at dksX3_add_7 5 rfl rfl)
abbrev cX3_isNew : ByteArray := prog_15_method_38_code
def yX3_isNew : MethodName := ⟨RX3, "isNew", "(I)Z"⟩
def dkwX3_isNew_1 : List UInt8 := [42, 180, 0, 28, 182, 0, 56, 4, 100, 160, 0, 7, 4, 167, 0, 4, 3, 172]
abbrev dktX3_isNew_1 : List UInt8 := dkwX3_isNew_1 ++ []
def dkwX3_isNew_0 : List UInt8 := [42, 180, 0, 28, 182, 0, 250, 154, 0, 33, 42, 180, 0, 22, 27, 182, 0, 69, 192, 0, 157, 180, 0, 178]
abbrev dktX3_isNew_0 : List UInt8 := dkwX3_isNew_0 ++ dktX3_isNew_1
theorem dksX3_isNew_0 : cX3_isNew.data.toList.drop 0 = dktX3_isNew_0 := by decide +kernel
theorem dksX3_isNew_1 : cX3_isNew.data.toList.drop 24 = dktX3_isNew_1 := dk_seg dksX3_isNew_0 24 rfl rfl
theorem dX3_isNew_0 : decode cX3_isNew 0 = .ok (.aload_n 0, 1) := dk_42 (dk_at dksX3_isNew_0 0 rfl rfl)
theorem dX3_isNew_1 : decode cX3_isNew 1 = .ok (.getfield 28, 3) := dk_180 0 28 (dk_at dksX3_isNew_0 1 rfl rfl)
theorem dX3_isNew_4 : decode cX3_isNew 4 = .ok (.invokevirtual 250, 3) := dk_182 0 250 (dk_at dksX3_isNew_0 4 rfl rfl)
theorem dX3_isNew_7 : decode cX3_isNew 7 = .ok (.ifCond .ne 33, 3) := dk_154 0 33 (dk_at dksX3_isNew_0 7 rfl rfl)
theorem dX3_isNew_10 : decode cX3_isNew 10 = .ok (.aload_n 0, 1) := dk_42 (dk_at dksX3_isNew_0 10 rfl rfl)
theorem dX3_isNew_11 : decode cX3_isNew 11 = .ok (.getfield 22, 3) := dk_180 0 22 (dk_at dksX3_isNew_0 11 rfl rfl)
theorem dX3_isNew_14 : decode cX3_isNew 14 = .ok (.iload_n 1, 1) := dk_27 (dk_at dksX3_isNew_0 14 rfl rfl)
theorem dX3_isNew_15 : decode cX3_isNew 15 = .ok (.invokevirtual 69, 3) := dk_182 0 69 (dk_at dksX3_isNew_0 15 rfl rfl)
theorem dX3_isNew_18 : decode cX3_isNew 18 = .ok (.checkcast 157, 3) := dk_192 0 157 (dk_at dksX3_isNew_0 18 rfl rfl)
theorem dX3_isNew_21 : decode cX3_isNew 21 = .ok (.getfield 178, 3) := dk_180 0 178 (dk_at dksX3_isNew_0 21 rfl rfl)
theorem dX3_isNew_24 : decode cX3_isNew 24 = .ok (.aload_n 0, 1) := dk_42 (dk_at dksX3_isNew_1 0 rfl rfl)
theorem dX3_isNew_25 : decode cX3_isNew 25 = .ok (.getfield 28, 3) := dk_180 0 28 (dk_at dksX3_isNew_1 1 rfl rfl)
theorem dX3_isNew_28 : decode cX3_isNew 28 = .ok (.invokevirtual 56, 3) := dk_182 0 56 (dk_at dksX3_isNew_1 4 rfl rfl)
theorem dX3_isNew_31 : decode cX3_isNew 31 = .ok (.iconst 1, 1) := dk_4 (dk_at dksX3_isNew_1 7 rfl rfl)
theorem dX3_isNew_32 : decode cX3_isNew 32 = .ok (.isub, 1) := dk_100 (dk_at dksX3_isNew_1 8 rfl rfl)
theorem dX3_isNew_33 : decode cX3_isNew 33 = .ok (.if_icmp .ne 7, 3) := dk_160 0 7 (dk_at dksX3_isNew_1 9 rfl rfl)
theorem dX3_isNew_36 : decode cX3_isNew 36 = .ok (.iconst 1, 1) := dk_4 (dk_at dksX3_isNew_1 12 rfl rfl)
theorem dX3_isNew_37 : decode cX3_isNew 37 = .ok (.goto 4, 3) := dk_167 0 4 (dk_at dksX3_isNew_1 13 rfl rfl)
theorem dX3_isNew_40 : decode cX3_isNew 40 = .ok (.iconst 0, 1) := dk_3 (dk_at dksX3_isNew_1 16 rfl rfl)
theorem dX3_isNew_41 : decode cX3_isNew 41 = .ok (.ireturn, 1) := dk_172 (dk_at dksX3_isNew_1 17 rfl rfl)
abbrev cX3_newest : ByteArray := prog_15_method_30_code
def yX3_newest : MethodName := ⟨RX3, "newest", "()LKeygroveModel$Epoch;"⟩
def dkwX3_newest_0 : List UInt8 := [42, 180, 0, 28, 42, 180, 0, 28, 182, 0, 56, 4, 100, 182, 0, 69, 192, 0, 130, 176]
abbrev dktX3_newest_0 : List UInt8 := dkwX3_newest_0 ++ []
theorem dksX3_newest_0 : cX3_newest.data.toList.drop 0 = dktX3_newest_0 := by decide +kernel
theorem dX3_newest_0 : decode cX3_newest 0 = .ok (.aload_n 0, 1) := dk_42 (dk_at dksX3_newest_0 0 rfl rfl)
theorem dX3_newest_1 : decode cX3_newest 1 = .ok (.getfield 28, 3) := dk_180 0 28 (dk_at dksX3_newest_0 1 rfl rfl)
theorem dX3_newest_4 : decode cX3_newest 4 = .ok (.aload_n 0, 1) := dk_42 (dk_at dksX3_newest_0 4 rfl rfl)
theorem dX3_newest_5 : decode cX3_newest 5 = .ok (.getfield 28, 3) := dk_180 0 28 (dk_at dksX3_newest_0 5 rfl rfl)
theorem dX3_newest_8 : decode cX3_newest 8 = .ok (.invokevirtual 56, 3) := dk_182 0 56 (dk_at dksX3_newest_0 8 rfl rfl)
theorem dX3_newest_11 : decode cX3_newest 11 = .ok (.iconst 1, 1) := dk_4 (dk_at dksX3_newest_0 11 rfl rfl)
theorem dX3_newest_12 : decode cX3_newest 12 = .ok (.isub, 1) := dk_100 (dk_at dksX3_newest_0 12 rfl rfl)
theorem dX3_newest_13 : decode cX3_newest 13 = .ok (.invokevirtual 69, 3) := dk_182 0 69 (dk_at dksX3_newest_0 13 rfl rfl)
theorem dX3_newest_16 : decode cX3_newest 16 = .ok (.checkcast 130, 3) := dk_192 0 130 (dk_at dksX3_newest_0 16 rfl rfl)
theorem dX3_newest_19 : decode cX3_newest 19 = .ok (.areturn, 1) := dk_176 (dk_at dksX3_newest_0 19 rfl rfl)
abbrev cX3_isProposed : ByteArray := prog_15_method_39_code
def yX3_isProposed : MethodName := ⟨RX3, "isProposed", "(CI)Z"⟩
def dkwX3_isProposed_4 : List UInt8 := [160, 0, 17, 167, 0, 12, 25, 4, 180, 1, 30, 28, 160, 0, 5, 4, 172, 167, 255, 154, 3, 172]
abbrev dktX3_isProposed_4 : List UInt8 := dkwX3_isProposed_4 ++ []
def dkwX3_isProposed_3 : List UInt8 := [192, 0, 159, 180, 0, 161, 160, 0, 35, 167, 0, 30, 27, 16, 114, 160, 0, 15, 25, 4, 180, 1, 27, 28]
abbrev dktX3_isProposed_3 : List UInt8 := dkwX3_isProposed_3 ++ dktX3_isProposed_4
def dkwX3_isProposed_2 : List UInt8 := [25, 4, 180, 1, 27, 182, 0, 69, 192, 0, 159, 180, 0, 161, 42, 180, 0, 19, 28, 182, 0, 69]
abbrev dktX3_isProposed_2 : List UInt8 := dkwX3_isProposed_2 ++ dktX3_isProposed_3
def dkwX3_isProposed_1 : List UInt8 := [192, 1, 21, 58, 4, 25, 4, 180, 1, 23, 27, 160, 0, 76, 27, 16, 97, 160, 0, 41, 42, 180, 0, 19]
abbrev dktX3_isProposed_1 : List UInt8 := dkwX3_isProposed_1 ++ dktX3_isProposed_2
def dkwX3_isProposed_0 : List UInt8 := [42, 180, 0, 25, 182, 0, 97, 78, 45, 185, 0, 101, 1, 0, 153, 0, 99, 45, 185, 0, 107, 1, 0]
abbrev dktX3_isProposed_0 : List UInt8 := dkwX3_isProposed_0 ++ dktX3_isProposed_1
theorem dksX3_isProposed_0 : cX3_isProposed.data.toList.drop 0 = dktX3_isProposed_0 := by decide +kernel
theorem dksX3_isProposed_1 : cX3_isProposed.data.toList.drop 23 = dktX3_isProposed_1 := dk_seg dksX3_isProposed_0 23 rfl rfl
theorem dksX3_isProposed_2 : cX3_isProposed.data.toList.drop 47 = dktX3_isProposed_2 := dk_seg dksX3_isProposed_1 24 rfl rfl
theorem dksX3_isProposed_3 : cX3_isProposed.data.toList.drop 69 = dktX3_isProposed_3 := dk_seg dksX3_isProposed_2 22 rfl rfl
theorem dksX3_isProposed_4 : cX3_isProposed.data.toList.drop 93 = dktX3_isProposed_4 := dk_seg dksX3_isProposed_3 24 rfl rfl
theorem dX3_isProposed_0 : decode cX3_isProposed 0 = .ok (.aload_n 0, 1) := dk_42 (dk_at dksX3_isProposed_0 0 rfl rfl)
theorem dX3_isProposed_1 : decode cX3_isProposed 1 = .ok (.getfield 25, 3) := dk_180 0 25 (dk_at dksX3_isProposed_0 1 rfl rfl)
theorem dX3_isProposed_4 : decode cX3_isProposed 4 = .ok (.invokevirtual 97, 3) := dk_182 0 97 (dk_at dksX3_isProposed_0 4 rfl rfl)
theorem dX3_isProposed_7 : decode cX3_isProposed 7 = .ok (.astore_n 3, 1) := dk_78 (dk_at dksX3_isProposed_0 7 rfl rfl)
theorem dX3_isProposed_8 : decode cX3_isProposed 8 = .ok (.aload_n 3, 1) := dk_45 (dk_at dksX3_isProposed_0 8 rfl rfl)
theorem dX3_isProposed_9 : decode cX3_isProposed 9 = .ok (.invokeinterface 101 1, 5) := by decide +kernel
theorem dX3_isProposed_14 : decode cX3_isProposed 14 = .ok (.ifCond .eq 99, 3) := dk_153 0 99 (dk_at dksX3_isProposed_0 14 rfl rfl)
theorem dX3_isProposed_17 : decode cX3_isProposed 17 = .ok (.aload_n 3, 1) := dk_45 (dk_at dksX3_isProposed_0 17 rfl rfl)
theorem dX3_isProposed_18 : decode cX3_isProposed 18 = .ok (.invokeinterface 107 1, 5) := by decide +kernel
theorem dX3_isProposed_23 : decode cX3_isProposed 23 = .ok (.checkcast 277, 3) := dk_192 1 21 (dk_at dksX3_isProposed_1 0 rfl rfl)
theorem dX3_isProposed_26 : decode cX3_isProposed 26 = .ok (.astore 4, 2) := dk_58 4 (dk_at dksX3_isProposed_1 3 rfl rfl)
theorem dX3_isProposed_28 : decode cX3_isProposed 28 = .ok (.aload 4, 2) := dk_25 4 (dk_at dksX3_isProposed_1 5 rfl rfl)
theorem dX3_isProposed_30 : decode cX3_isProposed 30 = .ok (.getfield 279, 3) := dk_180 1 23 (dk_at dksX3_isProposed_1 7 rfl rfl)
theorem dX3_isProposed_33 : decode cX3_isProposed 33 = .ok (.iload_n 1, 1) := dk_27 (dk_at dksX3_isProposed_1 10 rfl rfl)
theorem dX3_isProposed_34 : decode cX3_isProposed 34 = .ok (.if_icmp .ne 76, 3) := dk_160 0 76 (dk_at dksX3_isProposed_1 11 rfl rfl)
theorem dX3_isProposed_37 : decode cX3_isProposed 37 = .ok (.iload_n 1, 1) := dk_27 (dk_at dksX3_isProposed_1 14 rfl rfl)
theorem dX3_isProposed_38 : decode cX3_isProposed 38 = .ok (.bipush 97, 2) := dk_16 97 (dk_at dksX3_isProposed_1 15 rfl rfl)
theorem dX3_isProposed_40 : decode cX3_isProposed 40 = .ok (.if_icmp .ne 41, 3) := dk_160 0 41 (dk_at dksX3_isProposed_1 17 rfl rfl)
theorem dX3_isProposed_43 : decode cX3_isProposed 43 = .ok (.aload_n 0, 1) := dk_42 (dk_at dksX3_isProposed_1 20 rfl rfl)
theorem dX3_isProposed_44 : decode cX3_isProposed 44 = .ok (.getfield 19, 3) := dk_180 0 19 (dk_at dksX3_isProposed_1 21 rfl rfl)
theorem dX3_isProposed_47 : decode cX3_isProposed 47 = .ok (.aload 4, 2) := dk_25 4 (dk_at dksX3_isProposed_2 0 rfl rfl)
theorem dX3_isProposed_49 : decode cX3_isProposed 49 = .ok (.getfield 283, 3) := dk_180 1 27 (dk_at dksX3_isProposed_2 2 rfl rfl)
theorem dX3_isProposed_52 : decode cX3_isProposed 52 = .ok (.invokevirtual 69, 3) := dk_182 0 69 (dk_at dksX3_isProposed_2 5 rfl rfl)
theorem dX3_isProposed_55 : decode cX3_isProposed 55 = .ok (.checkcast 159, 3) := dk_192 0 159 (dk_at dksX3_isProposed_2 8 rfl rfl)
theorem dX3_isProposed_58 : decode cX3_isProposed 58 = .ok (.getfield 161, 3) := dk_180 0 161 (dk_at dksX3_isProposed_2 11 rfl rfl)
theorem dX3_isProposed_61 : decode cX3_isProposed 61 = .ok (.aload_n 0, 1) := dk_42 (dk_at dksX3_isProposed_2 14 rfl rfl)
theorem dX3_isProposed_62 : decode cX3_isProposed 62 = .ok (.getfield 19, 3) := dk_180 0 19 (dk_at dksX3_isProposed_2 15 rfl rfl)
theorem dX3_isProposed_65 : decode cX3_isProposed 65 = .ok (.iload_n 2, 1) := dk_28 (dk_at dksX3_isProposed_2 18 rfl rfl)
theorem dX3_isProposed_66 : decode cX3_isProposed 66 = .ok (.invokevirtual 69, 3) := dk_182 0 69 (dk_at dksX3_isProposed_2 19 rfl rfl)
theorem dX3_isProposed_69 : decode cX3_isProposed 69 = .ok (.checkcast 159, 3) := dk_192 0 159 (dk_at dksX3_isProposed_3 0 rfl rfl)
theorem dX3_isProposed_72 : decode cX3_isProposed 72 = .ok (.getfield 161, 3) := dk_180 0 161 (dk_at dksX3_isProposed_3 3 rfl rfl)
theorem dX3_isProposed_75 : decode cX3_isProposed 75 = .ok (.if_icmp .ne 35, 3) := dk_160 0 35 (dk_at dksX3_isProposed_3 6 rfl rfl)
theorem dX3_isProposed_78 : decode cX3_isProposed 78 = .ok (.goto 30, 3) := dk_167 0 30 (dk_at dksX3_isProposed_3 9 rfl rfl)
theorem dX3_isProposed_81 : decode cX3_isProposed 81 = .ok (.iload_n 1, 1) := dk_27 (dk_at dksX3_isProposed_3 12 rfl rfl)
theorem dX3_isProposed_82 : decode cX3_isProposed 82 = .ok (.bipush 114, 2) := dk_16 114 (dk_at dksX3_isProposed_3 13 rfl rfl)
theorem dX3_isProposed_84 : decode cX3_isProposed 84 = .ok (.if_icmp .ne 15, 3) := dk_160 0 15 (dk_at dksX3_isProposed_3 15 rfl rfl)
theorem dX3_isProposed_87 : decode cX3_isProposed 87 = .ok (.aload 4, 2) := dk_25 4 (dk_at dksX3_isProposed_3 18 rfl rfl)
theorem dX3_isProposed_89 : decode cX3_isProposed 89 = .ok (.getfield 283, 3) := dk_180 1 27 (dk_at dksX3_isProposed_3 20 rfl rfl)
theorem dX3_isProposed_92 : decode cX3_isProposed 92 = .ok (.iload_n 2, 1) := dk_28 (dk_at dksX3_isProposed_3 23 rfl rfl)
theorem dX3_isProposed_93 : decode cX3_isProposed 93 = .ok (.if_icmp .ne 17, 3) := dk_160 0 17 (dk_at dksX3_isProposed_4 0 rfl rfl)
theorem dX3_isProposed_96 : decode cX3_isProposed 96 = .ok (.goto 12, 3) := dk_167 0 12 (dk_at dksX3_isProposed_4 3 rfl rfl)
theorem dX3_isProposed_99 : decode cX3_isProposed 99 = .ok (.aload 4, 2) := dk_25 4 (dk_at dksX3_isProposed_4 6 rfl rfl)
theorem dX3_isProposed_101 : decode cX3_isProposed 101 = .ok (.getfield 286, 3) := dk_180 1 30 (dk_at dksX3_isProposed_4 8 rfl rfl)
theorem dX3_isProposed_104 : decode cX3_isProposed 104 = .ok (.iload_n 2, 1) := dk_28 (dk_at dksX3_isProposed_4 11 rfl rfl)
theorem dX3_isProposed_105 : decode cX3_isProposed 105 = .ok (.if_icmp .ne 5, 3) := dk_160 0 5 (dk_at dksX3_isProposed_4 12 rfl rfl)
theorem dX3_isProposed_108 : decode cX3_isProposed 108 = .ok (.iconst 1, 1) := dk_4 (dk_at dksX3_isProposed_4 15 rfl rfl)
theorem dX3_isProposed_109 : decode cX3_isProposed 109 = .ok (.ireturn, 1) := dk_172 (dk_at dksX3_isProposed_4 16 rfl rfl)
theorem dX3_isProposed_110 : decode cX3_isProposed 110 = .ok (.goto (-102), 3) := dk_167 255 154 (dk_at dksX3_isProposed_4 17 rfl rfl)
theorem dX3_isProposed_113 : decode cX3_isProposed 113 = .ok (.iconst 0, 1) := dk_3 (dk_at dksX3_isProposed_4 20 rfl rfl)
theorem dX3_isProposed_114 : decode cX3_isProposed 114 = .ok (.ireturn, 1) := dk_172 (dk_at dksX3_isProposed_4 21 rfl rfl)
abbrev cX3_proposed : ByteArray := prog_15_method_40_code
def yX3_proposed : MethodName := ⟨RX3, "proposed", "(CII)I"⟩
def dkwX3_proposed_1 : List UInt8 := [182, 0, 56, 172]
abbrev dktX3_proposed_1 : List UInt8 := dkwX3_proposed_1 ++ []
def dkwX3_proposed_0 : List UInt8 := [42, 180, 0, 25, 187, 1, 21, 89, 27, 28, 29, 183, 1, 31, 182, 0, 52, 87, 42, 180, 0, 25]
abbrev dktX3_proposed_0 : List UInt8 := dkwX3_proposed_0 ++ dktX3_proposed_1
theorem dksX3_proposed_0 : cX3_proposed.data.toList.drop 0 = dktX3_proposed_0 := by decide +kernel
theorem dksX3_proposed_1 : cX3_proposed.data.toList.drop 22 = dktX3_proposed_1 := dk_seg dksX3_proposed_0 22 rfl rfl
theorem dX3_proposed_0 : decode cX3_proposed 0 = .ok (.aload_n 0, 1) := dk_42 (dk_at dksX3_proposed_0 0 rfl rfl)
theorem dX3_proposed_1 : decode cX3_proposed 1 = .ok (.getfield 25, 3) := dk_180 0 25 (dk_at dksX3_proposed_0 1 rfl rfl)
theorem dX3_proposed_4 : decode cX3_proposed 4 = .ok (.new 277, 3) := dk_187 1 21 (dk_at dksX3_proposed_0 4 rfl rfl)
theorem dX3_proposed_7 : decode cX3_proposed 7 = .ok (.dup, 1) := dk_89 (dk_at dksX3_proposed_0 7 rfl rfl)
theorem dX3_proposed_8 : decode cX3_proposed 8 = .ok (.iload_n 1, 1) := dk_27 (dk_at dksX3_proposed_0 8 rfl rfl)
theorem dX3_proposed_9 : decode cX3_proposed 9 = .ok (.iload_n 2, 1) := dk_28 (dk_at dksX3_proposed_0 9 rfl rfl)
theorem dX3_proposed_10 : decode cX3_proposed 10 = .ok (.iload_n 3, 1) := dk_29 (dk_at dksX3_proposed_0 10 rfl rfl)
theorem dX3_proposed_11 : decode cX3_proposed 11 = .ok (.invokespecial 287, 3) := dk_183 1 31 (dk_at dksX3_proposed_0 11 rfl rfl)
theorem dX3_proposed_14 : decode cX3_proposed 14 = .ok (.invokevirtual 52, 3) := dk_182 0 52 (dk_at dksX3_proposed_0 14 rfl rfl)
theorem dX3_proposed_17 : decode cX3_proposed 17 = .ok (.pop, 1) := dk_87 (dk_at dksX3_proposed_0 17 rfl rfl)
theorem dX3_proposed_18 : decode cX3_proposed 18 = .ok (.aload_n 0, 1) := dk_42 (dk_at dksX3_proposed_0 18 rfl rfl)
theorem dX3_proposed_19 : decode cX3_proposed 19 = .ok (.getfield 25, 3) := dk_180 0 25 (dk_at dksX3_proposed_0 19 rfl rfl)
theorem dX3_proposed_22 : decode cX3_proposed 22 = .ok (.invokevirtual 56, 3) := dk_182 0 56 (dk_at dksX3_proposed_1 0 rfl rfl)
theorem dX3_proposed_25 : decode cX3_proposed 25 = .ok (.ireturn, 1) := dk_172 (dk_at dksX3_proposed_1 3 rfl rfl)
abbrev cX3_remove : ByteArray := prog_15_method_42_code
def yX3_remove : MethodName := ⟨RX3, "remove", "(II)I"⟩
def dkwX3_remove_5 : List UInt8 := [182, 0, 230, 153, 0, 5, 3, 172, 42, 16, 114, 27, 28, 182, 1, 48, 172]
abbrev dktX3_remove_5 : List UInt8 := dkwX3_remove_5 ++ []
def dkwX3_remove_4 : List UInt8 := [154, 0, 7, 5, 167, 0, 20, 42, 180, 0, 25, 182, 0, 56, 16, 8, 160, 0, 7, 6, 167, 0, 4, 3]
abbrev dktX3_remove_4 : List UInt8 := dkwX3_remove_4 ++ dktX3_remove_5
def dkwX3_remove_3 : List UInt8 := [2, 159, 0, 17, 42, 16, 114, 28, 182, 1, 44, 154, 0, 7, 4, 167, 0, 4, 3, 62, 42, 29]
abbrev dktX3_remove_3 : List UInt8 := dkwX3_remove_3 ++ dktX3_remove_4
def dkwX3_remove_2 : List UInt8 := [153, 0, 5, 3, 172, 42, 27, 182, 1, 34, 153, 0, 32, 42, 182, 1, 40, 180, 0, 129, 5, 28, 104, 46]
abbrev dktX3_remove_2 : List UInt8 := dkwX3_remove_2 ++ dktX3_remove_3
def dkwX3_remove_1 : List UInt8 := [182, 1, 40, 180, 0, 247, 4, 100, 184, 0, 222, 153, 0, 7, 3, 167, 0, 4, 4, 182, 0, 230]
abbrev dktX3_remove_1 : List UInt8 := dkwX3_remove_1 ++ dktX3_remove_2
def dkwX3_remove_0 : List UInt8 := [42, 42, 27, 182, 0, 226, 153, 0, 34, 42, 180, 0, 28, 182, 0, 250, 154, 0, 24, 28, 3, 42]
abbrev dktX3_remove_0 : List UInt8 := dkwX3_remove_0 ++ dktX3_remove_1
theorem dksX3_remove_0 : cX3_remove.data.toList.drop 0 = dktX3_remove_0 := by decide +kernel
theorem dksX3_remove_1 : cX3_remove.data.toList.drop 22 = dktX3_remove_1 := dk_seg dksX3_remove_0 22 rfl rfl
theorem dksX3_remove_2 : cX3_remove.data.toList.drop 44 = dktX3_remove_2 := dk_seg dksX3_remove_1 22 rfl rfl
theorem dksX3_remove_3 : cX3_remove.data.toList.drop 68 = dktX3_remove_3 := dk_seg dksX3_remove_2 24 rfl rfl
theorem dksX3_remove_4 : cX3_remove.data.toList.drop 90 = dktX3_remove_4 := dk_seg dksX3_remove_3 22 rfl rfl
theorem dksX3_remove_5 : cX3_remove.data.toList.drop 114 = dktX3_remove_5 := dk_seg dksX3_remove_4 24 rfl rfl
theorem dX3_remove_0 : decode cX3_remove 0 = .ok (.aload_n 0, 1) := dk_42 (dk_at dksX3_remove_0 0 rfl rfl)
theorem dX3_remove_1 : decode cX3_remove 1 = .ok (.aload_n 0, 1) := dk_42 (dk_at dksX3_remove_0 1 rfl rfl)
theorem dX3_remove_2 : decode cX3_remove 2 = .ok (.iload_n 1, 1) := dk_27 (dk_at dksX3_remove_0 2 rfl rfl)
theorem dX3_remove_3 : decode cX3_remove 3 = .ok (.invokevirtual 226, 3) := dk_182 0 226 (dk_at dksX3_remove_0 3 rfl rfl)
theorem dX3_remove_6 : decode cX3_remove 6 = .ok (.ifCond .eq 34, 3) := dk_153 0 34 (dk_at dksX3_remove_0 6 rfl rfl)
theorem dX3_remove_9 : decode cX3_remove 9 = .ok (.aload_n 0, 1) := dk_42 (dk_at dksX3_remove_0 9 rfl rfl)
theorem dX3_remove_10 : decode cX3_remove 10 = .ok (.getfield 28, 3) := dk_180 0 28 (dk_at dksX3_remove_0 10 rfl rfl)
theorem dX3_remove_13 : decode cX3_remove 13 = .ok (.invokevirtual 250, 3) := dk_182 0 250 (dk_at dksX3_remove_0 13 rfl rfl)
theorem dX3_remove_16 : decode cX3_remove 16 = .ok (.ifCond .ne 24, 3) := dk_154 0 24 (dk_at dksX3_remove_0 16 rfl rfl)
theorem dX3_remove_19 : decode cX3_remove 19 = .ok (.iload_n 2, 1) := dk_28 (dk_at dksX3_remove_0 19 rfl rfl)
theorem dX3_remove_20 : decode cX3_remove 20 = .ok (.iconst 0, 1) := dk_3 (dk_at dksX3_remove_0 20 rfl rfl)
theorem dX3_remove_21 : decode cX3_remove 21 = .ok (.aload_n 0, 1) := dk_42 (dk_at dksX3_remove_0 21 rfl rfl)
theorem dX3_remove_22 : decode cX3_remove 22 = .ok (.invokevirtual 296, 3) := dk_182 1 40 (dk_at dksX3_remove_1 0 rfl rfl)
theorem dX3_remove_25 : decode cX3_remove 25 = .ok (.getfield 247, 3) := dk_180 0 247 (dk_at dksX3_remove_1 3 rfl rfl)
theorem dX3_remove_28 : decode cX3_remove 28 = .ok (.iconst 1, 1) := dk_4 (dk_at dksX3_remove_1 6 rfl rfl)
theorem dX3_remove_29 : decode cX3_remove 29 = .ok (.isub, 1) := dk_100 (dk_at dksX3_remove_1 7 rfl rfl)
theorem dX3_remove_30 : decode cX3_remove 30 = .ok (.invokestatic 222, 3) := dk_184 0 222 (dk_at dksX3_remove_1 8 rfl rfl)
theorem dX3_remove_33 : decode cX3_remove 33 = .ok (.ifCond .eq 7, 3) := dk_153 0 7 (dk_at dksX3_remove_1 11 rfl rfl)
theorem dX3_remove_36 : decode cX3_remove 36 = .ok (.iconst 0, 1) := dk_3 (dk_at dksX3_remove_1 14 rfl rfl)
theorem dX3_remove_37 : decode cX3_remove 37 = .ok (.goto 4, 3) := dk_167 0 4 (dk_at dksX3_remove_1 15 rfl rfl)
theorem dX3_remove_40 : decode cX3_remove 40 = .ok (.iconst 1, 1) := dk_4 (dk_at dksX3_remove_1 18 rfl rfl)
theorem dX3_remove_41 : decode cX3_remove 41 = .ok (.invokevirtual 230, 3) := dk_182 0 230 (dk_at dksX3_remove_1 19 rfl rfl)
theorem dX3_remove_44 : decode cX3_remove 44 = .ok (.ifCond .eq 5, 3) := dk_153 0 5 (dk_at dksX3_remove_2 0 rfl rfl)
theorem dX3_remove_47 : decode cX3_remove 47 = .ok (.iconst 0, 1) := dk_3 (dk_at dksX3_remove_2 3 rfl rfl)
theorem dX3_remove_48 : decode cX3_remove 48 = .ok (.ireturn, 1) := dk_172 (dk_at dksX3_remove_2 4 rfl rfl)
theorem dX3_remove_49 : decode cX3_remove 49 = .ok (.aload_n 0, 1) := dk_42 (dk_at dksX3_remove_2 5 rfl rfl)
theorem dX3_remove_50 : decode cX3_remove 50 = .ok (.iload_n 1, 1) := dk_27 (dk_at dksX3_remove_2 6 rfl rfl)
theorem dX3_remove_51 : decode cX3_remove 51 = .ok (.invokevirtual 290, 3) := dk_182 1 34 (dk_at dksX3_remove_2 7 rfl rfl)
theorem dX3_remove_54 : decode cX3_remove 54 = .ok (.ifCond .eq 32, 3) := dk_153 0 32 (dk_at dksX3_remove_2 10 rfl rfl)
theorem dX3_remove_57 : decode cX3_remove 57 = .ok (.aload_n 0, 1) := dk_42 (dk_at dksX3_remove_2 13 rfl rfl)
theorem dX3_remove_58 : decode cX3_remove 58 = .ok (.invokevirtual 296, 3) := dk_182 1 40 (dk_at dksX3_remove_2 14 rfl rfl)
theorem dX3_remove_61 : decode cX3_remove 61 = .ok (.getfield 129, 3) := dk_180 0 129 (dk_at dksX3_remove_2 17 rfl rfl)
theorem dX3_remove_64 : decode cX3_remove 64 = .ok (.iconst 2, 1) := dk_5 (dk_at dksX3_remove_2 20 rfl rfl)
theorem dX3_remove_65 : decode cX3_remove 65 = .ok (.iload_n 2, 1) := dk_28 (dk_at dksX3_remove_2 21 rfl rfl)
theorem dX3_remove_66 : decode cX3_remove 66 = .ok (.imul, 1) := dk_104 (dk_at dksX3_remove_2 22 rfl rfl)
theorem dX3_remove_67 : decode cX3_remove 67 = .ok (.iaload, 1) := dk_46 (dk_at dksX3_remove_2 23 rfl rfl)
theorem dX3_remove_68 : decode cX3_remove 68 = .ok (.iconst (-1), 1) := dk_2 (dk_at dksX3_remove_3 0 rfl rfl)
theorem dX3_remove_69 : decode cX3_remove 69 = .ok (.if_icmp .eq 17, 3) := dk_159 0 17 (dk_at dksX3_remove_3 1 rfl rfl)
theorem dX3_remove_72 : decode cX3_remove 72 = .ok (.aload_n 0, 1) := dk_42 (dk_at dksX3_remove_3 4 rfl rfl)
theorem dX3_remove_73 : decode cX3_remove 73 = .ok (.bipush 114, 2) := dk_16 114 (dk_at dksX3_remove_3 5 rfl rfl)
theorem dX3_remove_75 : decode cX3_remove 75 = .ok (.iload_n 2, 1) := dk_28 (dk_at dksX3_remove_3 7 rfl rfl)
theorem dX3_remove_76 : decode cX3_remove 76 = .ok (.invokevirtual 300, 3) := dk_182 1 44 (dk_at dksX3_remove_3 8 rfl rfl)
theorem dX3_remove_79 : decode cX3_remove 79 = .ok (.ifCond .ne 7, 3) := dk_154 0 7 (dk_at dksX3_remove_3 11 rfl rfl)
theorem dX3_remove_82 : decode cX3_remove 82 = .ok (.iconst 1, 1) := dk_4 (dk_at dksX3_remove_3 14 rfl rfl)
theorem dX3_remove_83 : decode cX3_remove 83 = .ok (.goto 4, 3) := dk_167 0 4 (dk_at dksX3_remove_3 15 rfl rfl)
theorem dX3_remove_86 : decode cX3_remove 86 = .ok (.iconst 0, 1) := dk_3 (dk_at dksX3_remove_3 18 rfl rfl)
theorem dX3_remove_87 : decode cX3_remove 87 = .ok (.istore_n 3, 1) := dk_62 (dk_at dksX3_remove_3 19 rfl rfl)
theorem dX3_remove_88 : decode cX3_remove 88 = .ok (.aload_n 0, 1) := dk_42 (dk_at dksX3_remove_3 20 rfl rfl)
theorem dX3_remove_89 : decode cX3_remove 89 = .ok (.iload_n 3, 1) := dk_29 (dk_at dksX3_remove_3 21 rfl rfl)
theorem dX3_remove_90 : decode cX3_remove 90 = .ok (.ifCond .ne 7, 3) := dk_154 0 7 (dk_at dksX3_remove_4 0 rfl rfl)
theorem dX3_remove_93 : decode cX3_remove 93 = .ok (.iconst 2, 1) := dk_5 (dk_at dksX3_remove_4 3 rfl rfl)
theorem dX3_remove_94 : decode cX3_remove 94 = .ok (.goto 20, 3) := dk_167 0 20 (dk_at dksX3_remove_4 4 rfl rfl)
theorem dX3_remove_97 : decode cX3_remove 97 = .ok (.aload_n 0, 1) := dk_42 (dk_at dksX3_remove_4 7 rfl rfl)
theorem dX3_remove_98 : decode cX3_remove 98 = .ok (.getfield 25, 3) := dk_180 0 25 (dk_at dksX3_remove_4 8 rfl rfl)
theorem dX3_remove_101 : decode cX3_remove 101 = .ok (.invokevirtual 56, 3) := dk_182 0 56 (dk_at dksX3_remove_4 11 rfl rfl)
theorem dX3_remove_104 : decode cX3_remove 104 = .ok (.bipush 8, 2) := dk_16 8 (dk_at dksX3_remove_4 14 rfl rfl)
theorem dX3_remove_106 : decode cX3_remove 106 = .ok (.if_icmp .ne 7, 3) := dk_160 0 7 (dk_at dksX3_remove_4 16 rfl rfl)
theorem dX3_remove_109 : decode cX3_remove 109 = .ok (.iconst 3, 1) := dk_6 (dk_at dksX3_remove_4 19 rfl rfl)
theorem dX3_remove_110 : decode cX3_remove 110 = .ok (.goto 4, 3) := dk_167 0 4 (dk_at dksX3_remove_4 20 rfl rfl)
theorem dX3_remove_113 : decode cX3_remove 113 = .ok (.iconst 0, 1) := dk_3 (dk_at dksX3_remove_4 23 rfl rfl)
theorem dX3_remove_114 : decode cX3_remove 114 = .ok (.invokevirtual 230, 3) := dk_182 0 230 (dk_at dksX3_remove_5 0 rfl rfl)
theorem dX3_remove_117 : decode cX3_remove 117 = .ok (.ifCond .eq 5, 3) := dk_153 0 5 (dk_at dksX3_remove_5 3 rfl rfl)
theorem dX3_remove_120 : decode cX3_remove 120 = .ok (.iconst 0, 1) := dk_3 (dk_at dksX3_remove_5 6 rfl rfl)
theorem dX3_remove_121 : decode cX3_remove 121 = .ok (.ireturn, 1) := dk_172 (dk_at dksX3_remove_5 7 rfl rfl)
theorem dX3_remove_122 : decode cX3_remove 122 = .ok (.aload_n 0, 1) := dk_42 (dk_at dksX3_remove_5 8 rfl rfl)
theorem dX3_remove_123 : decode cX3_remove 123 = .ok (.bipush 114, 2) := dk_16 114 (dk_at dksX3_remove_5 9 rfl rfl)
theorem dX3_remove_125 : decode cX3_remove 125 = .ok (.iload_n 1, 1) := dk_27 (dk_at dksX3_remove_5 11 rfl rfl)
theorem dX3_remove_126 : decode cX3_remove 126 = .ok (.iload_n 2, 1) := dk_28 (dk_at dksX3_remove_5 12 rfl rfl)
theorem dX3_remove_127 : decode cX3_remove 127 = .ok (.invokevirtual 304, 3) := dk_182 1 48 (dk_at dksX3_remove_5 13 rfl rfl)
theorem dX3_remove_130 : decode cX3_remove 130 = .ok (.ireturn, 1) := dk_172 (dk_at dksX3_remove_5 16 rfl rfl)
abbrev cX3_renew : ByteArray := prog_15_method_43_code
def yX3_renew : MethodName := ⟨RX3, "renew", "(I)I"⟩
def dkwX3_renew_4 : List UInt8 := [192, 0, 157, 180, 0, 184, 182, 1, 48, 172]
abbrev dktX3_renew_4 : List UInt8 := dkwX3_renew_4 ++ []
def dkwX3_renew_3 : List UInt8 := [182, 0, 238, 181, 0, 184, 42, 182, 0, 244, 42, 16, 110, 27, 42, 180, 0, 22, 27, 182, 0, 69]
abbrev dktX3_renew_3 : List UInt8 := dkwX3_renew_3 ++ dktX3_renew_4
def dkwX3_renew_2 : List UInt8 := [167, 0, 4, 3, 182, 0, 230, 153, 0, 5, 3, 172, 42, 180, 0, 22, 27, 182, 0, 69, 192, 0, 157, 42]
abbrev dktX3_renew_2 : List UInt8 := dkwX3_renew_2 ++ dktX3_renew_3
def dkwX3_renew_1 : List UInt8 := [27, 182, 1, 44, 153, 0, 7, 5, 167, 0, 20, 42, 180, 0, 25, 182, 0, 56, 16, 8, 160, 0, 7, 6]
abbrev dktX3_renew_1 : List UInt8 := dkwX3_renew_1 ++ dktX3_renew_2
def dkwX3_renew_0 : List UInt8 := [42, 42, 27, 182, 0, 226, 154, 0, 7, 4, 167, 0, 42, 42, 27, 182, 1, 34, 153, 0, 13, 42, 16, 110]
abbrev dktX3_renew_0 : List UInt8 := dkwX3_renew_0 ++ dktX3_renew_1
theorem dksX3_renew_0 : cX3_renew.data.toList.drop 0 = dktX3_renew_0 := by decide +kernel
theorem dksX3_renew_1 : cX3_renew.data.toList.drop 24 = dktX3_renew_1 := dk_seg dksX3_renew_0 24 rfl rfl
theorem dksX3_renew_2 : cX3_renew.data.toList.drop 48 = dktX3_renew_2 := dk_seg dksX3_renew_1 24 rfl rfl
theorem dksX3_renew_3 : cX3_renew.data.toList.drop 72 = dktX3_renew_3 := dk_seg dksX3_renew_2 24 rfl rfl
theorem dksX3_renew_4 : cX3_renew.data.toList.drop 94 = dktX3_renew_4 := dk_seg dksX3_renew_3 22 rfl rfl
theorem dX3_renew_0 : decode cX3_renew 0 = .ok (.aload_n 0, 1) := dk_42 (dk_at dksX3_renew_0 0 rfl rfl)
theorem dX3_renew_1 : decode cX3_renew 1 = .ok (.aload_n 0, 1) := dk_42 (dk_at dksX3_renew_0 1 rfl rfl)
theorem dX3_renew_2 : decode cX3_renew 2 = .ok (.iload_n 1, 1) := dk_27 (dk_at dksX3_renew_0 2 rfl rfl)
theorem dX3_renew_3 : decode cX3_renew 3 = .ok (.invokevirtual 226, 3) := dk_182 0 226 (dk_at dksX3_renew_0 3 rfl rfl)
theorem dX3_renew_6 : decode cX3_renew 6 = .ok (.ifCond .ne 7, 3) := dk_154 0 7 (dk_at dksX3_renew_0 6 rfl rfl)
theorem dX3_renew_9 : decode cX3_renew 9 = .ok (.iconst 1, 1) := dk_4 (dk_at dksX3_renew_0 9 rfl rfl)
theorem dX3_renew_10 : decode cX3_renew 10 = .ok (.goto 42, 3) := dk_167 0 42 (dk_at dksX3_renew_0 10 rfl rfl)
theorem dX3_renew_13 : decode cX3_renew 13 = .ok (.aload_n 0, 1) := dk_42 (dk_at dksX3_renew_0 13 rfl rfl)
theorem dX3_renew_14 : decode cX3_renew 14 = .ok (.iload_n 1, 1) := dk_27 (dk_at dksX3_renew_0 14 rfl rfl)
theorem dX3_renew_15 : decode cX3_renew 15 = .ok (.invokevirtual 290, 3) := dk_182 1 34 (dk_at dksX3_renew_0 15 rfl rfl)
theorem dX3_renew_18 : decode cX3_renew 18 = .ok (.ifCond .eq 13, 3) := dk_153 0 13 (dk_at dksX3_renew_0 18 rfl rfl)
theorem dX3_renew_21 : decode cX3_renew 21 = .ok (.aload_n 0, 1) := dk_42 (dk_at dksX3_renew_0 21 rfl rfl)
theorem dX3_renew_22 : decode cX3_renew 22 = .ok (.bipush 110, 2) := dk_16 110 (dk_at dksX3_renew_0 22 rfl rfl)
theorem dX3_renew_24 : decode cX3_renew 24 = .ok (.iload_n 1, 1) := dk_27 (dk_at dksX3_renew_1 0 rfl rfl)
theorem dX3_renew_25 : decode cX3_renew 25 = .ok (.invokevirtual 300, 3) := dk_182 1 44 (dk_at dksX3_renew_1 1 rfl rfl)
theorem dX3_renew_28 : decode cX3_renew 28 = .ok (.ifCond .eq 7, 3) := dk_153 0 7 (dk_at dksX3_renew_1 4 rfl rfl)
theorem dX3_renew_31 : decode cX3_renew 31 = .ok (.iconst 2, 1) := dk_5 (dk_at dksX3_renew_1 7 rfl rfl)
theorem dX3_renew_32 : decode cX3_renew 32 = .ok (.goto 20, 3) := dk_167 0 20 (dk_at dksX3_renew_1 8 rfl rfl)
theorem dX3_renew_35 : decode cX3_renew 35 = .ok (.aload_n 0, 1) := dk_42 (dk_at dksX3_renew_1 11 rfl rfl)
theorem dX3_renew_36 : decode cX3_renew 36 = .ok (.getfield 25, 3) := dk_180 0 25 (dk_at dksX3_renew_1 12 rfl rfl)
theorem dX3_renew_39 : decode cX3_renew 39 = .ok (.invokevirtual 56, 3) := dk_182 0 56 (dk_at dksX3_renew_1 15 rfl rfl)
theorem dX3_renew_42 : decode cX3_renew 42 = .ok (.bipush 8, 2) := dk_16 8 (dk_at dksX3_renew_1 18 rfl rfl)
theorem dX3_renew_44 : decode cX3_renew 44 = .ok (.if_icmp .ne 7, 3) := dk_160 0 7 (dk_at dksX3_renew_1 20 rfl rfl)
theorem dX3_renew_47 : decode cX3_renew 47 = .ok (.iconst 3, 1) := dk_6 (dk_at dksX3_renew_1 23 rfl rfl)
theorem dX3_renew_48 : decode cX3_renew 48 = .ok (.goto 4, 3) := dk_167 0 4 (dk_at dksX3_renew_2 0 rfl rfl)
theorem dX3_renew_51 : decode cX3_renew 51 = .ok (.iconst 0, 1) := dk_3 (dk_at dksX3_renew_2 3 rfl rfl)
theorem dX3_renew_52 : decode cX3_renew 52 = .ok (.invokevirtual 230, 3) := dk_182 0 230 (dk_at dksX3_renew_2 4 rfl rfl)
theorem dX3_renew_55 : decode cX3_renew 55 = .ok (.ifCond .eq 5, 3) := dk_153 0 5 (dk_at dksX3_renew_2 7 rfl rfl)
theorem dX3_renew_58 : decode cX3_renew 58 = .ok (.iconst 0, 1) := dk_3 (dk_at dksX3_renew_2 10 rfl rfl)
theorem dX3_renew_59 : decode cX3_renew 59 = .ok (.ireturn, 1) := dk_172 (dk_at dksX3_renew_2 11 rfl rfl)
theorem dX3_renew_60 : decode cX3_renew 60 = .ok (.aload_n 0, 1) := dk_42 (dk_at dksX3_renew_2 12 rfl rfl)
theorem dX3_renew_61 : decode cX3_renew 61 = .ok (.getfield 22, 3) := dk_180 0 22 (dk_at dksX3_renew_2 13 rfl rfl)
theorem dX3_renew_64 : decode cX3_renew 64 = .ok (.iload_n 1, 1) := dk_27 (dk_at dksX3_renew_2 16 rfl rfl)
theorem dX3_renew_65 : decode cX3_renew 65 = .ok (.invokevirtual 69, 3) := dk_182 0 69 (dk_at dksX3_renew_2 17 rfl rfl)
theorem dX3_renew_68 : decode cX3_renew 68 = .ok (.checkcast 157, 3) := dk_192 0 157 (dk_at dksX3_renew_2 20 rfl rfl)
theorem dX3_renew_71 : decode cX3_renew 71 = .ok (.aload_n 0, 1) := dk_42 (dk_at dksX3_renew_2 23 rfl rfl)
theorem dX3_renew_72 : decode cX3_renew 72 = .ok (.invokevirtual 238, 3) := dk_182 0 238 (dk_at dksX3_renew_3 0 rfl rfl)
theorem dX3_renew_75 : decode cX3_renew 75 = .ok (.putfield 184, 3) := dk_181 0 184 (dk_at dksX3_renew_3 3 rfl rfl)
theorem dX3_renew_78 : decode cX3_renew 78 = .ok (.aload_n 0, 1) := dk_42 (dk_at dksX3_renew_3 6 rfl rfl)
theorem dX3_renew_79 : decode cX3_renew 79 = .ok (.invokevirtual 244, 3) := dk_182 0 244 (dk_at dksX3_renew_3 7 rfl rfl)
theorem dX3_renew_82 : decode cX3_renew 82 = .ok (.aload_n 0, 1) := dk_42 (dk_at dksX3_renew_3 10 rfl rfl)
theorem dX3_renew_83 : decode cX3_renew 83 = .ok (.bipush 110, 2) := dk_16 110 (dk_at dksX3_renew_3 11 rfl rfl)
theorem dX3_renew_85 : decode cX3_renew 85 = .ok (.iload_n 1, 1) := dk_27 (dk_at dksX3_renew_3 13 rfl rfl)
theorem dX3_renew_86 : decode cX3_renew 86 = .ok (.aload_n 0, 1) := dk_42 (dk_at dksX3_renew_3 14 rfl rfl)
theorem dX3_renew_87 : decode cX3_renew 87 = .ok (.getfield 22, 3) := dk_180 0 22 (dk_at dksX3_renew_3 15 rfl rfl)
theorem dX3_renew_90 : decode cX3_renew 90 = .ok (.iload_n 1, 1) := dk_27 (dk_at dksX3_renew_3 18 rfl rfl)
theorem dX3_renew_91 : decode cX3_renew 91 = .ok (.invokevirtual 69, 3) := dk_182 0 69 (dk_at dksX3_renew_3 19 rfl rfl)
theorem dX3_renew_94 : decode cX3_renew 94 = .ok (.checkcast 157, 3) := dk_192 0 157 (dk_at dksX3_renew_4 0 rfl rfl)
theorem dX3_renew_97 : decode cX3_renew 97 = .ok (.getfield 184, 3) := dk_180 0 184 (dk_at dksX3_renew_4 3 rfl rfl)
theorem dX3_renew_100 : decode cX3_renew 100 = .ok (.invokevirtual 304, 3) := dk_182 1 48 (dk_at dksX3_renew_4 6 rfl rfl)
theorem dX3_renew_103 : decode cX3_renew 103 = .ok (.ireturn, 1) := dk_172 (dk_at dksX3_renew_4 9 rfl rfl)
abbrev cX3_proposals : ByteArray := prog_15_method_44_code
def yX3_proposals : MethodName := ⟨RX3, "proposals", "()I"⟩
def dkwX3_proposals_0 : List UInt8 := [42, 3, 181, 0, 41, 42, 180, 0, 25, 182, 0, 56, 172]
abbrev dktX3_proposals_0 : List UInt8 := dkwX3_proposals_0 ++ []
theorem dksX3_proposals_0 : cX3_proposals.data.toList.drop 0 = dktX3_proposals_0 := by decide +kernel
theorem dX3_proposals_0 : decode cX3_proposals 0 = .ok (.aload_n 0, 1) := dk_42 (dk_at dksX3_proposals_0 0 rfl rfl)
theorem dX3_proposals_1 : decode cX3_proposals 1 = .ok (.iconst 0, 1) := dk_3 (dk_at dksX3_proposals_0 1 rfl rfl)
theorem dX3_proposals_2 : decode cX3_proposals 2 = .ok (.putfield 41, 3) := dk_181 0 41 (dk_at dksX3_proposals_0 2 rfl rfl)
theorem dX3_proposals_5 : decode cX3_proposals 5 = .ok (.aload_n 0, 1) := dk_42 (dk_at dksX3_proposals_0 5 rfl rfl)
theorem dX3_proposals_6 : decode cX3_proposals 6 = .ok (.getfield 25, 3) := dk_180 0 25 (dk_at dksX3_proposals_0 6 rfl rfl)
theorem dX3_proposals_9 : decode cX3_proposals 9 = .ok (.invokevirtual 56, 3) := dk_182 0 56 (dk_at dksX3_proposals_0 9 rfl rfl)
theorem dX3_proposals_12 : decode cX3_proposals 12 = .ok (.ireturn, 1) := dk_172 (dk_at dksX3_proposals_0 12 rfl rfl)
abbrev cX3_proposal : ByteArray := prog_15_method_45_code
def yX3_proposal : MethodName := ⟨RX3, "proposal", "(I)C"⟩
def dkwX3_proposal_2 : List UInt8 := [172]
abbrev dktX3_proposal_2 : List UInt8 := dkwX3_proposal_2 ++ []
def dkwX3_proposal_1 : List UInt8 := [182, 0, 230, 153, 0, 7, 3, 167, 0, 17, 42, 180, 0, 25, 27, 182, 0, 69, 192, 1, 21, 180, 1, 23]
abbrev dktX3_proposal_1 : List UInt8 := dkwX3_proposal_1 ++ dktX3_proposal_2
def dkwX3_proposal_0 : List UInt8 := [42, 27, 3, 42, 180, 0, 25, 182, 0, 56, 4, 100, 184, 0, 222, 153, 0, 7, 3, 167, 0, 4, 4]
abbrev dktX3_proposal_0 : List UInt8 := dkwX3_proposal_0 ++ dktX3_proposal_1
theorem dksX3_proposal_0 : cX3_proposal.data.toList.drop 0 = dktX3_proposal_0 := by decide +kernel
theorem dksX3_proposal_1 : cX3_proposal.data.toList.drop 23 = dktX3_proposal_1 := dk_seg dksX3_proposal_0 23 rfl rfl
theorem dksX3_proposal_2 : cX3_proposal.data.toList.drop 47 = dktX3_proposal_2 := dk_seg dksX3_proposal_1 24 rfl rfl
theorem dX3_proposal_0 : decode cX3_proposal 0 = .ok (.aload_n 0, 1) := dk_42 (dk_at dksX3_proposal_0 0 rfl rfl)
theorem dX3_proposal_1 : decode cX3_proposal 1 = .ok (.iload_n 1, 1) := dk_27 (dk_at dksX3_proposal_0 1 rfl rfl)
theorem dX3_proposal_2 : decode cX3_proposal 2 = .ok (.iconst 0, 1) := dk_3 (dk_at dksX3_proposal_0 2 rfl rfl)
theorem dX3_proposal_3 : decode cX3_proposal 3 = .ok (.aload_n 0, 1) := dk_42 (dk_at dksX3_proposal_0 3 rfl rfl)
theorem dX3_proposal_4 : decode cX3_proposal 4 = .ok (.getfield 25, 3) := dk_180 0 25 (dk_at dksX3_proposal_0 4 rfl rfl)
theorem dX3_proposal_7 : decode cX3_proposal 7 = .ok (.invokevirtual 56, 3) := dk_182 0 56 (dk_at dksX3_proposal_0 7 rfl rfl)
theorem dX3_proposal_10 : decode cX3_proposal 10 = .ok (.iconst 1, 1) := dk_4 (dk_at dksX3_proposal_0 10 rfl rfl)
theorem dX3_proposal_11 : decode cX3_proposal 11 = .ok (.isub, 1) := dk_100 (dk_at dksX3_proposal_0 11 rfl rfl)
theorem dX3_proposal_12 : decode cX3_proposal 12 = .ok (.invokestatic 222, 3) := dk_184 0 222 (dk_at dksX3_proposal_0 12 rfl rfl)
theorem dX3_proposal_15 : decode cX3_proposal 15 = .ok (.ifCond .eq 7, 3) := dk_153 0 7 (dk_at dksX3_proposal_0 15 rfl rfl)
theorem dX3_proposal_18 : decode cX3_proposal 18 = .ok (.iconst 0, 1) := dk_3 (dk_at dksX3_proposal_0 18 rfl rfl)
theorem dX3_proposal_19 : decode cX3_proposal 19 = .ok (.goto 4, 3) := dk_167 0 4 (dk_at dksX3_proposal_0 19 rfl rfl)
theorem dX3_proposal_22 : decode cX3_proposal 22 = .ok (.iconst 1, 1) := dk_4 (dk_at dksX3_proposal_0 22 rfl rfl)
theorem dX3_proposal_23 : decode cX3_proposal 23 = .ok (.invokevirtual 230, 3) := dk_182 0 230 (dk_at dksX3_proposal_1 0 rfl rfl)
theorem dX3_proposal_26 : decode cX3_proposal 26 = .ok (.ifCond .eq 7, 3) := dk_153 0 7 (dk_at dksX3_proposal_1 3 rfl rfl)
theorem dX3_proposal_29 : decode cX3_proposal 29 = .ok (.iconst 0, 1) := dk_3 (dk_at dksX3_proposal_1 6 rfl rfl)
theorem dX3_proposal_30 : decode cX3_proposal 30 = .ok (.goto 17, 3) := dk_167 0 17 (dk_at dksX3_proposal_1 7 rfl rfl)
theorem dX3_proposal_33 : decode cX3_proposal 33 = .ok (.aload_n 0, 1) := dk_42 (dk_at dksX3_proposal_1 10 rfl rfl)
theorem dX3_proposal_34 : decode cX3_proposal 34 = .ok (.getfield 25, 3) := dk_180 0 25 (dk_at dksX3_proposal_1 11 rfl rfl)
theorem dX3_proposal_37 : decode cX3_proposal 37 = .ok (.iload_n 1, 1) := dk_27 (dk_at dksX3_proposal_1 14 rfl rfl)
theorem dX3_proposal_38 : decode cX3_proposal 38 = .ok (.invokevirtual 69, 3) := dk_182 0 69 (dk_at dksX3_proposal_1 15 rfl rfl)
theorem dX3_proposal_41 : decode cX3_proposal 41 = .ok (.checkcast 277, 3) := dk_192 1 21 (dk_at dksX3_proposal_1 18 rfl rfl)
theorem dX3_proposal_44 : decode cX3_proposal 44 = .ok (.getfield 279, 3) := dk_180 1 23 (dk_at dksX3_proposal_1 21 rfl rfl)
theorem dX3_proposal_47 : decode cX3_proposal 47 = .ok (.ireturn, 1) := dk_172 (dk_at dksX3_proposal_2 0 rfl rfl)
abbrev cX3_commit : ByteArray := prog_15_method_50_code
def yX3_commit : MethodName := ⟨RX3, "commit", "(I)I"⟩
def dkwX3_commit_17 : List UInt8 := [42, 25, 4, 45, 182, 1, 7, 42, 182, 0, 244, 45, 180, 0, 214, 172]
abbrev dktX3_commit_17 : List UInt8 := dkwX3_commit_17 ++ []
def dkwX3_commit_16 : List UInt8 := [25, 4, 45, 180, 0, 129, 5, 25, 4, 180, 1, 4, 104, 46, 181, 0, 181, 25, 4, 45, 3, 184, 1, 100]
abbrev dktX3_commit_16 : List UInt8 := dkwX3_commit_16 ++ dktX3_commit_17
def dkwX3_commit_15 : List UInt8 := [182, 0, 87, 182, 1, 0, 42, 89, 180, 1, 94, 4, 96, 181, 1, 94, 42, 180, 0, 25, 182, 1, 97]
abbrev dktX3_commit_15 : List UInt8 := dkwX3_commit_15 ++ dktX3_commit_16
def dkwX3_commit_14 : List UInt8 := [46, 25, 8, 180, 0, 175, 182, 1, 75, 132, 7, 1, 167, 255, 180, 42, 45, 42, 21, 6, 2, 7]
abbrev dktX3_commit_14 : List UInt8 := dkwX3_commit_14 ++ dktX3_commit_15
def dkwX3_commit_13 : List UInt8 := [58, 8, 42, 21, 6, 25, 8, 180, 0, 175, 182, 1, 75, 42, 45, 180, 0, 129, 45, 21, 7, 184, 1, 91]
abbrev dktX3_commit_13 : List UInt8 := dkwX3_commit_13 ++ dktX3_commit_14
def dkwX3_commit_12 : List UInt8 := [2, 160, 0, 6, 167, 0, 53, 42, 180, 0, 19, 45, 180, 1, 63, 21, 7, 46, 182, 0, 69, 192, 0, 159]
abbrev dktX3_commit_12 : List UInt8 := dkwX3_commit_12 ++ dktX3_commit_13
def dkwX3_commit_11 : List UInt8 := [182, 0, 87, 54, 6, 3, 54, 7, 21, 7, 45, 180, 0, 247, 162, 0, 73, 45, 180, 1, 63, 21, 7, 46]
abbrev dktX3_commit_11 : List UInt8 := dkwX3_commit_11 ++ dktX3_commit_12
def dkwX3_commit_10 : List UInt8 := [180, 1, 4, 182, 1, 87, 54, 5, 42, 44, 180, 0, 189, 42, 21, 5, 2, 5, 182, 0, 87, 6]
abbrev dktX3_commit_10 : List UInt8 := dkwX3_commit_10 ++ dktX3_commit_11
def dkwX3_commit_9 : List UInt8 := [79, 45, 21, 7, 184, 1, 56, 167, 255, 145, 42, 45, 182, 1, 80, 42, 45, 182, 1, 84, 42, 45, 25, 4]
abbrev dktX3_commit_9 : List UInt8 := dkwX3_commit_9 ++ dktX3_commit_10
def dkwX3_commit_8 : List UInt8 := [182, 0, 69, 192, 0, 157, 180, 1, 4, 54, 7, 45, 180, 0, 129, 5, 21, 7, 104, 25, 6, 180, 1, 27]
abbrev dktX3_commit_8 : List UInt8 := dkwX3_commit_8 ++ dktX3_commit_9
def dkwX3_commit_7 : List UInt8 := [192, 0, 157, 180, 1, 4, 182, 1, 44, 153, 0, 6, 167, 255, 188, 42, 180, 0, 22, 25, 6, 180, 1, 30]
abbrev dktX3_commit_7 : List UInt8 := dkwX3_commit_7 ++ dktX3_commit_8
def dkwX3_commit_6 : List UInt8 := [180, 1, 30, 27, 159, 255, 218, 42, 16, 114, 42, 180, 0, 22, 25, 6, 180, 1, 30, 182, 0, 69]
abbrev dktX3_commit_6 : List UInt8 := dkwX3_commit_6 ++ dktX3_commit_7
def dkwX3_commit_5 : List UInt8 := [25, 5, 185, 0, 107, 1, 0, 192, 1, 21, 58, 6, 25, 6, 180, 1, 23, 16, 110, 160, 255, 227, 25, 6]
abbrev dktX3_commit_5 : List UInt8 := dkwX3_commit_5 ++ dktX3_commit_6
def dkwX3_commit_4 : List UInt8 := [192, 0, 157, 58, 4, 42, 180, 0, 25, 182, 0, 97, 58, 5, 25, 5, 185, 0, 101, 1, 0, 153, 0, 107]
abbrev dktX3_commit_4 : List UInt8 := dkwX3_commit_4 ++ dktX3_commit_5
def dkwX3_commit_3 : List UInt8 := [153, 0, 5, 3, 172, 42, 182, 1, 40, 77, 44, 182, 1, 78, 78, 42, 180, 0, 22, 27, 182, 0, 69]
abbrev dktX3_commit_3 : List UInt8 := dkwX3_commit_3 ++ dktX3_commit_4
def dkwX3_commit_2 : List UInt8 := [42, 180, 0, 28, 182, 0, 56, 4, 100, 16, 23, 160, 0, 7, 6, 167, 0, 4, 3, 182, 0, 230]
abbrev dktX3_commit_2 : List UInt8 := dkwX3_commit_2 ++ dktX3_commit_3
def dkwX3_commit_1 : List UInt8 := [42, 180, 0, 22, 27, 182, 0, 69, 192, 0, 157, 180, 1, 4, 182, 1, 44, 153, 0, 7, 5, 167, 0, 22]
abbrev dktX3_commit_1 : List UInt8 := dkwX3_commit_1 ++ dktX3_commit_2
def dkwX3_commit_0 : List UInt8 := [42, 42, 27, 182, 0, 226, 154, 0, 7, 4, 167, 0, 57, 42, 27, 182, 1, 34, 153, 0, 26, 42, 16, 114]
abbrev dktX3_commit_0 : List UInt8 := dkwX3_commit_0 ++ dktX3_commit_1
theorem dksX3_commit_0 : cX3_commit.data.toList.drop 0 = dktX3_commit_0 := by decide +kernel
theorem dksX3_commit_1 : cX3_commit.data.toList.drop 24 = dktX3_commit_1 := dk_seg dksX3_commit_0 24 rfl rfl
theorem dksX3_commit_2 : cX3_commit.data.toList.drop 48 = dktX3_commit_2 := dk_seg dksX3_commit_1 24 rfl rfl
theorem dksX3_commit_3 : cX3_commit.data.toList.drop 70 = dktX3_commit_3 := dk_seg dksX3_commit_2 22 rfl rfl
theorem dksX3_commit_4 : cX3_commit.data.toList.drop 93 = dktX3_commit_4 := dk_seg dksX3_commit_3 23 rfl rfl
theorem dksX3_commit_5 : cX3_commit.data.toList.drop 117 = dktX3_commit_5 := dk_seg dksX3_commit_4 24 rfl rfl
theorem dksX3_commit_6 : cX3_commit.data.toList.drop 141 = dktX3_commit_6 := dk_seg dksX3_commit_5 24 rfl rfl
theorem dksX3_commit_7 : cX3_commit.data.toList.drop 163 = dktX3_commit_7 := dk_seg dksX3_commit_6 22 rfl rfl
theorem dksX3_commit_8 : cX3_commit.data.toList.drop 187 = dktX3_commit_8 := dk_seg dksX3_commit_7 24 rfl rfl
theorem dksX3_commit_9 : cX3_commit.data.toList.drop 211 = dktX3_commit_9 := dk_seg dksX3_commit_8 24 rfl rfl
theorem dksX3_commit_10 : cX3_commit.data.toList.drop 235 = dktX3_commit_10 := dk_seg dksX3_commit_9 24 rfl rfl
theorem dksX3_commit_11 : cX3_commit.data.toList.drop 257 = dktX3_commit_11 := dk_seg dksX3_commit_10 22 rfl rfl
theorem dksX3_commit_12 : cX3_commit.data.toList.drop 281 = dktX3_commit_12 := dk_seg dksX3_commit_11 24 rfl rfl
theorem dksX3_commit_13 : cX3_commit.data.toList.drop 305 = dktX3_commit_13 := dk_seg dksX3_commit_12 24 rfl rfl
theorem dksX3_commit_14 : cX3_commit.data.toList.drop 329 = dktX3_commit_14 := dk_seg dksX3_commit_13 24 rfl rfl
theorem dksX3_commit_15 : cX3_commit.data.toList.drop 351 = dktX3_commit_15 := dk_seg dksX3_commit_14 22 rfl rfl
theorem dksX3_commit_16 : cX3_commit.data.toList.drop 374 = dktX3_commit_16 := dk_seg dksX3_commit_15 23 rfl rfl
theorem dksX3_commit_17 : cX3_commit.data.toList.drop 398 = dktX3_commit_17 := dk_seg dksX3_commit_16 24 rfl rfl
theorem dX3_commit_0 : decode cX3_commit 0 = .ok (.aload_n 0, 1) := dk_42 (dk_at dksX3_commit_0 0 rfl rfl)
theorem dX3_commit_1 : decode cX3_commit 1 = .ok (.aload_n 0, 1) := dk_42 (dk_at dksX3_commit_0 1 rfl rfl)
theorem dX3_commit_2 : decode cX3_commit 2 = .ok (.iload_n 1, 1) := dk_27 (dk_at dksX3_commit_0 2 rfl rfl)
theorem dX3_commit_3 : decode cX3_commit 3 = .ok (.invokevirtual 226, 3) := dk_182 0 226 (dk_at dksX3_commit_0 3 rfl rfl)
theorem dX3_commit_6 : decode cX3_commit 6 = .ok (.ifCond .ne 7, 3) := dk_154 0 7 (dk_at dksX3_commit_0 6 rfl rfl)
theorem dX3_commit_9 : decode cX3_commit 9 = .ok (.iconst 1, 1) := dk_4 (dk_at dksX3_commit_0 9 rfl rfl)
theorem dX3_commit_10 : decode cX3_commit 10 = .ok (.goto 57, 3) := dk_167 0 57 (dk_at dksX3_commit_0 10 rfl rfl)
theorem dX3_commit_13 : decode cX3_commit 13 = .ok (.aload_n 0, 1) := dk_42 (dk_at dksX3_commit_0 13 rfl rfl)
theorem dX3_commit_14 : decode cX3_commit 14 = .ok (.iload_n 1, 1) := dk_27 (dk_at dksX3_commit_0 14 rfl rfl)
theorem dX3_commit_15 : decode cX3_commit 15 = .ok (.invokevirtual 290, 3) := dk_182 1 34 (dk_at dksX3_commit_0 15 rfl rfl)
theorem dX3_commit_18 : decode cX3_commit 18 = .ok (.ifCond .eq 26, 3) := dk_153 0 26 (dk_at dksX3_commit_0 18 rfl rfl)
theorem dX3_commit_21 : decode cX3_commit 21 = .ok (.aload_n 0, 1) := dk_42 (dk_at dksX3_commit_0 21 rfl rfl)
theorem dX3_commit_22 : decode cX3_commit 22 = .ok (.bipush 114, 2) := dk_16 114 (dk_at dksX3_commit_0 22 rfl rfl)
theorem dX3_commit_24 : decode cX3_commit 24 = .ok (.aload_n 0, 1) := dk_42 (dk_at dksX3_commit_1 0 rfl rfl)
theorem dX3_commit_25 : decode cX3_commit 25 = .ok (.getfield 22, 3) := dk_180 0 22 (dk_at dksX3_commit_1 1 rfl rfl)
theorem dX3_commit_28 : decode cX3_commit 28 = .ok (.iload_n 1, 1) := dk_27 (dk_at dksX3_commit_1 4 rfl rfl)
theorem dX3_commit_29 : decode cX3_commit 29 = .ok (.invokevirtual 69, 3) := dk_182 0 69 (dk_at dksX3_commit_1 5 rfl rfl)
theorem dX3_commit_32 : decode cX3_commit 32 = .ok (.checkcast 157, 3) := dk_192 0 157 (dk_at dksX3_commit_1 8 rfl rfl)
theorem dX3_commit_35 : decode cX3_commit 35 = .ok (.getfield 260, 3) := dk_180 1 4 (dk_at dksX3_commit_1 11 rfl rfl)
theorem dX3_commit_38 : decode cX3_commit 38 = .ok (.invokevirtual 300, 3) := dk_182 1 44 (dk_at dksX3_commit_1 14 rfl rfl)
theorem dX3_commit_41 : decode cX3_commit 41 = .ok (.ifCond .eq 7, 3) := dk_153 0 7 (dk_at dksX3_commit_1 17 rfl rfl)
theorem dX3_commit_44 : decode cX3_commit 44 = .ok (.iconst 2, 1) := dk_5 (dk_at dksX3_commit_1 20 rfl rfl)
theorem dX3_commit_45 : decode cX3_commit 45 = .ok (.goto 22, 3) := dk_167 0 22 (dk_at dksX3_commit_1 21 rfl rfl)
theorem dX3_commit_48 : decode cX3_commit 48 = .ok (.aload_n 0, 1) := dk_42 (dk_at dksX3_commit_2 0 rfl rfl)
theorem dX3_commit_49 : decode cX3_commit 49 = .ok (.getfield 28, 3) := dk_180 0 28 (dk_at dksX3_commit_2 1 rfl rfl)
theorem dX3_commit_52 : decode cX3_commit 52 = .ok (.invokevirtual 56, 3) := dk_182 0 56 (dk_at dksX3_commit_2 4 rfl rfl)
theorem dX3_commit_55 : decode cX3_commit 55 = .ok (.iconst 1, 1) := dk_4 (dk_at dksX3_commit_2 7 rfl rfl)
theorem dX3_commit_56 : decode cX3_commit 56 = .ok (.isub, 1) := dk_100 (dk_at dksX3_commit_2 8 rfl rfl)
theorem dX3_commit_57 : decode cX3_commit 57 = .ok (.bipush 23, 2) := dk_16 23 (dk_at dksX3_commit_2 9 rfl rfl)
theorem dX3_commit_59 : decode cX3_commit 59 = .ok (.if_icmp .ne 7, 3) := dk_160 0 7 (dk_at dksX3_commit_2 11 rfl rfl)
theorem dX3_commit_62 : decode cX3_commit 62 = .ok (.iconst 3, 1) := dk_6 (dk_at dksX3_commit_2 14 rfl rfl)
theorem dX3_commit_63 : decode cX3_commit 63 = .ok (.goto 4, 3) := dk_167 0 4 (dk_at dksX3_commit_2 15 rfl rfl)
theorem dX3_commit_66 : decode cX3_commit 66 = .ok (.iconst 0, 1) := dk_3 (dk_at dksX3_commit_2 18 rfl rfl)
theorem dX3_commit_67 : decode cX3_commit 67 = .ok (.invokevirtual 230, 3) := dk_182 0 230 (dk_at dksX3_commit_2 19 rfl rfl)
theorem dX3_commit_70 : decode cX3_commit 70 = .ok (.ifCond .eq 5, 3) := dk_153 0 5 (dk_at dksX3_commit_3 0 rfl rfl)
theorem dX3_commit_73 : decode cX3_commit 73 = .ok (.iconst 0, 1) := dk_3 (dk_at dksX3_commit_3 3 rfl rfl)
theorem dX3_commit_74 : decode cX3_commit 74 = .ok (.ireturn, 1) := dk_172 (dk_at dksX3_commit_3 4 rfl rfl)
theorem dX3_commit_75 : decode cX3_commit 75 = .ok (.aload_n 0, 1) := dk_42 (dk_at dksX3_commit_3 5 rfl rfl)
theorem dX3_commit_76 : decode cX3_commit 76 = .ok (.invokevirtual 296, 3) := dk_182 1 40 (dk_at dksX3_commit_3 6 rfl rfl)
theorem dX3_commit_79 : decode cX3_commit 79 = .ok (.astore_n 2, 1) := dk_77 (dk_at dksX3_commit_3 9 rfl rfl)
theorem dX3_commit_80 : decode cX3_commit 80 = .ok (.aload_n 2, 1) := dk_44 (dk_at dksX3_commit_3 10 rfl rfl)
theorem dX3_commit_81 : decode cX3_commit 81 = .ok (.invokevirtual 334, 3) := dk_182 1 78 (dk_at dksX3_commit_3 11 rfl rfl)
theorem dX3_commit_84 : decode cX3_commit 84 = .ok (.astore_n 3, 1) := dk_78 (dk_at dksX3_commit_3 14 rfl rfl)
theorem dX3_commit_85 : decode cX3_commit 85 = .ok (.aload_n 0, 1) := dk_42 (dk_at dksX3_commit_3 15 rfl rfl)
theorem dX3_commit_86 : decode cX3_commit 86 = .ok (.getfield 22, 3) := dk_180 0 22 (dk_at dksX3_commit_3 16 rfl rfl)
theorem dX3_commit_89 : decode cX3_commit 89 = .ok (.iload_n 1, 1) := dk_27 (dk_at dksX3_commit_3 19 rfl rfl)
theorem dX3_commit_90 : decode cX3_commit 90 = .ok (.invokevirtual 69, 3) := dk_182 0 69 (dk_at dksX3_commit_3 20 rfl rfl)
theorem dX3_commit_93 : decode cX3_commit 93 = .ok (.checkcast 157, 3) := dk_192 0 157 (dk_at dksX3_commit_4 0 rfl rfl)
theorem dX3_commit_96 : decode cX3_commit 96 = .ok (.astore 4, 2) := dk_58 4 (dk_at dksX3_commit_4 3 rfl rfl)
theorem dX3_commit_98 : decode cX3_commit 98 = .ok (.aload_n 0, 1) := dk_42 (dk_at dksX3_commit_4 5 rfl rfl)
theorem dX3_commit_99 : decode cX3_commit 99 = .ok (.getfield 25, 3) := dk_180 0 25 (dk_at dksX3_commit_4 6 rfl rfl)
theorem dX3_commit_102 : decode cX3_commit 102 = .ok (.invokevirtual 97, 3) := dk_182 0 97 (dk_at dksX3_commit_4 9 rfl rfl)
theorem dX3_commit_105 : decode cX3_commit 105 = .ok (.astore 5, 2) := dk_58 5 (dk_at dksX3_commit_4 12 rfl rfl)
theorem dX3_commit_107 : decode cX3_commit 107 = .ok (.aload 5, 2) := dk_25 5 (dk_at dksX3_commit_4 14 rfl rfl)
theorem dX3_commit_109 : decode cX3_commit 109 = .ok (.invokeinterface 101 1, 5) := by decide +kernel
theorem dX3_commit_114 : decode cX3_commit 114 = .ok (.ifCond .eq 107, 3) := dk_153 0 107 (dk_at dksX3_commit_4 21 rfl rfl)
theorem dX3_commit_117 : decode cX3_commit 117 = .ok (.aload 5, 2) := dk_25 5 (dk_at dksX3_commit_5 0 rfl rfl)
theorem dX3_commit_119 : decode cX3_commit 119 = .ok (.invokeinterface 107 1, 5) := by decide +kernel
theorem dX3_commit_124 : decode cX3_commit 124 = .ok (.checkcast 277, 3) := dk_192 1 21 (dk_at dksX3_commit_5 7 rfl rfl)
theorem dX3_commit_127 : decode cX3_commit 127 = .ok (.astore 6, 2) := dk_58 6 (dk_at dksX3_commit_5 10 rfl rfl)
theorem dX3_commit_129 : decode cX3_commit 129 = .ok (.aload 6, 2) := dk_25 6 (dk_at dksX3_commit_5 12 rfl rfl)
theorem dX3_commit_131 : decode cX3_commit 131 = .ok (.getfield 279, 3) := dk_180 1 23 (dk_at dksX3_commit_5 14 rfl rfl)
theorem dX3_commit_134 : decode cX3_commit 134 = .ok (.bipush 110, 2) := dk_16 110 (dk_at dksX3_commit_5 17 rfl rfl)
theorem dX3_commit_136 : decode cX3_commit 136 = .ok (.if_icmp .ne (-29), 3) := dk_160 255 227 (dk_at dksX3_commit_5 19 rfl rfl)
theorem dX3_commit_139 : decode cX3_commit 139 = .ok (.aload 6, 2) := dk_25 6 (dk_at dksX3_commit_5 22 rfl rfl)
theorem dX3_commit_141 : decode cX3_commit 141 = .ok (.getfield 286, 3) := dk_180 1 30 (dk_at dksX3_commit_6 0 rfl rfl)
theorem dX3_commit_144 : decode cX3_commit 144 = .ok (.iload_n 1, 1) := dk_27 (dk_at dksX3_commit_6 3 rfl rfl)
theorem dX3_commit_145 : decode cX3_commit 145 = .ok (.if_icmp .eq (-38), 3) := dk_159 255 218 (dk_at dksX3_commit_6 4 rfl rfl)
theorem dX3_commit_148 : decode cX3_commit 148 = .ok (.aload_n 0, 1) := dk_42 (dk_at dksX3_commit_6 7 rfl rfl)
theorem dX3_commit_149 : decode cX3_commit 149 = .ok (.bipush 114, 2) := dk_16 114 (dk_at dksX3_commit_6 8 rfl rfl)
theorem dX3_commit_151 : decode cX3_commit 151 = .ok (.aload_n 0, 1) := dk_42 (dk_at dksX3_commit_6 10 rfl rfl)
theorem dX3_commit_152 : decode cX3_commit 152 = .ok (.getfield 22, 3) := dk_180 0 22 (dk_at dksX3_commit_6 11 rfl rfl)
theorem dX3_commit_155 : decode cX3_commit 155 = .ok (.aload 6, 2) := dk_25 6 (dk_at dksX3_commit_6 14 rfl rfl)
theorem dX3_commit_157 : decode cX3_commit 157 = .ok (.getfield 286, 3) := dk_180 1 30 (dk_at dksX3_commit_6 16 rfl rfl)
theorem dX3_commit_160 : decode cX3_commit 160 = .ok (.invokevirtual 69, 3) := dk_182 0 69 (dk_at dksX3_commit_6 19 rfl rfl)
theorem dX3_commit_163 : decode cX3_commit 163 = .ok (.checkcast 157, 3) := dk_192 0 157 (dk_at dksX3_commit_7 0 rfl rfl)
theorem dX3_commit_166 : decode cX3_commit 166 = .ok (.getfield 260, 3) := dk_180 1 4 (dk_at dksX3_commit_7 3 rfl rfl)
theorem dX3_commit_169 : decode cX3_commit 169 = .ok (.invokevirtual 300, 3) := dk_182 1 44 (dk_at dksX3_commit_7 6 rfl rfl)
theorem dX3_commit_172 : decode cX3_commit 172 = .ok (.ifCond .eq 6, 3) := dk_153 0 6 (dk_at dksX3_commit_7 9 rfl rfl)
theorem dX3_commit_175 : decode cX3_commit 175 = .ok (.goto (-68), 3) := dk_167 255 188 (dk_at dksX3_commit_7 12 rfl rfl)
theorem dX3_commit_178 : decode cX3_commit 178 = .ok (.aload_n 0, 1) := dk_42 (dk_at dksX3_commit_7 15 rfl rfl)
theorem dX3_commit_179 : decode cX3_commit 179 = .ok (.getfield 22, 3) := dk_180 0 22 (dk_at dksX3_commit_7 16 rfl rfl)
theorem dX3_commit_182 : decode cX3_commit 182 = .ok (.aload 6, 2) := dk_25 6 (dk_at dksX3_commit_7 19 rfl rfl)
theorem dX3_commit_184 : decode cX3_commit 184 = .ok (.getfield 286, 3) := dk_180 1 30 (dk_at dksX3_commit_7 21 rfl rfl)
theorem dX3_commit_187 : decode cX3_commit 187 = .ok (.invokevirtual 69, 3) := dk_182 0 69 (dk_at dksX3_commit_8 0 rfl rfl)
theorem dX3_commit_190 : decode cX3_commit 190 = .ok (.checkcast 157, 3) := dk_192 0 157 (dk_at dksX3_commit_8 3 rfl rfl)
theorem dX3_commit_193 : decode cX3_commit 193 = .ok (.getfield 260, 3) := dk_180 1 4 (dk_at dksX3_commit_8 6 rfl rfl)
theorem dX3_commit_196 : decode cX3_commit 196 = .ok (.istore 7, 2) := dk_54 7 (dk_at dksX3_commit_8 9 rfl rfl)
theorem dX3_commit_198 : decode cX3_commit 198 = .ok (.aload_n 3, 1) := dk_45 (dk_at dksX3_commit_8 11 rfl rfl)
theorem dX3_commit_199 : decode cX3_commit 199 = .ok (.getfield 129, 3) := dk_180 0 129 (dk_at dksX3_commit_8 12 rfl rfl)
theorem dX3_commit_202 : decode cX3_commit 202 = .ok (.iconst 2, 1) := dk_5 (dk_at dksX3_commit_8 15 rfl rfl)
theorem dX3_commit_203 : decode cX3_commit 203 = .ok (.iload 7, 2) := dk_21 7 (dk_at dksX3_commit_8 16 rfl rfl)
theorem dX3_commit_205 : decode cX3_commit 205 = .ok (.imul, 1) := dk_104 (dk_at dksX3_commit_8 18 rfl rfl)
theorem dX3_commit_206 : decode cX3_commit 206 = .ok (.aload 6, 2) := dk_25 6 (dk_at dksX3_commit_8 19 rfl rfl)
theorem dX3_commit_208 : decode cX3_commit 208 = .ok (.getfield 283, 3) := dk_180 1 27 (dk_at dksX3_commit_8 21 rfl rfl)
theorem dX3_commit_211 : decode cX3_commit 211 = .ok (.iastore, 1) := dk_79 (dk_at dksX3_commit_9 0 rfl rfl)
theorem dX3_commit_212 : decode cX3_commit 212 = .ok (.aload_n 3, 1) := dk_45 (dk_at dksX3_commit_9 1 rfl rfl)
theorem dX3_commit_213 : decode cX3_commit 213 = .ok (.iload 7, 2) := dk_21 7 (dk_at dksX3_commit_9 2 rfl rfl)
theorem dX3_commit_215 : decode cX3_commit 215 = .ok (.invokestatic 312, 3) := dk_184 1 56 (dk_at dksX3_commit_9 4 rfl rfl)
theorem dX3_commit_218 : decode cX3_commit 218 = .ok (.goto (-111), 3) := dk_167 255 145 (dk_at dksX3_commit_9 7 rfl rfl)
theorem dX3_commit_221 : decode cX3_commit 221 = .ok (.aload_n 0, 1) := dk_42 (dk_at dksX3_commit_9 10 rfl rfl)
theorem dX3_commit_222 : decode cX3_commit 222 = .ok (.aload_n 3, 1) := dk_45 (dk_at dksX3_commit_9 11 rfl rfl)
theorem dX3_commit_223 : decode cX3_commit 223 = .ok (.invokevirtual 336, 3) := dk_182 1 80 (dk_at dksX3_commit_9 12 rfl rfl)
theorem dX3_commit_226 : decode cX3_commit 226 = .ok (.aload_n 0, 1) := dk_42 (dk_at dksX3_commit_9 15 rfl rfl)
theorem dX3_commit_227 : decode cX3_commit 227 = .ok (.aload_n 3, 1) := dk_45 (dk_at dksX3_commit_9 16 rfl rfl)
theorem dX3_commit_228 : decode cX3_commit 228 = .ok (.invokevirtual 340, 3) := dk_182 1 84 (dk_at dksX3_commit_9 17 rfl rfl)
theorem dX3_commit_231 : decode cX3_commit 231 = .ok (.aload_n 0, 1) := dk_42 (dk_at dksX3_commit_9 20 rfl rfl)
theorem dX3_commit_232 : decode cX3_commit 232 = .ok (.aload_n 3, 1) := dk_45 (dk_at dksX3_commit_9 21 rfl rfl)
theorem dX3_commit_233 : decode cX3_commit 233 = .ok (.aload 4, 2) := dk_25 4 (dk_at dksX3_commit_9 22 rfl rfl)
theorem dX3_commit_235 : decode cX3_commit 235 = .ok (.getfield 260, 3) := dk_180 1 4 (dk_at dksX3_commit_10 0 rfl rfl)
theorem dX3_commit_238 : decode cX3_commit 238 = .ok (.invokevirtual 343, 3) := dk_182 1 87 (dk_at dksX3_commit_10 3 rfl rfl)
theorem dX3_commit_241 : decode cX3_commit 241 = .ok (.istore 5, 2) := dk_54 5 (dk_at dksX3_commit_10 6 rfl rfl)
theorem dX3_commit_243 : decode cX3_commit 243 = .ok (.aload_n 0, 1) := dk_42 (dk_at dksX3_commit_10 8 rfl rfl)
theorem dX3_commit_244 : decode cX3_commit 244 = .ok (.aload_n 2, 1) := dk_44 (dk_at dksX3_commit_10 9 rfl rfl)
theorem dX3_commit_245 : decode cX3_commit 245 = .ok (.getfield 189, 3) := dk_180 0 189 (dk_at dksX3_commit_10 10 rfl rfl)
theorem dX3_commit_248 : decode cX3_commit 248 = .ok (.aload_n 0, 1) := dk_42 (dk_at dksX3_commit_10 13 rfl rfl)
theorem dX3_commit_249 : decode cX3_commit 249 = .ok (.iload 5, 2) := dk_21 5 (dk_at dksX3_commit_10 14 rfl rfl)
theorem dX3_commit_251 : decode cX3_commit 251 = .ok (.iconst (-1), 1) := dk_2 (dk_at dksX3_commit_10 16 rfl rfl)
theorem dX3_commit_252 : decode cX3_commit 252 = .ok (.iconst 2, 1) := dk_5 (dk_at dksX3_commit_10 17 rfl rfl)
theorem dX3_commit_253 : decode cX3_commit 253 = .ok (.invokevirtual 87, 3) := dk_182 0 87 (dk_at dksX3_commit_10 18 rfl rfl)
theorem dX3_commit_256 : decode cX3_commit 256 = .ok (.iconst 3, 1) := dk_6 (dk_at dksX3_commit_10 21 rfl rfl)
theorem dX3_commit_257 : decode cX3_commit 257 = .ok (.invokevirtual 87, 3) := dk_182 0 87 (dk_at dksX3_commit_11 0 rfl rfl)
theorem dX3_commit_260 : decode cX3_commit 260 = .ok (.istore 6, 2) := dk_54 6 (dk_at dksX3_commit_11 3 rfl rfl)
theorem dX3_commit_262 : decode cX3_commit 262 = .ok (.iconst 0, 1) := dk_3 (dk_at dksX3_commit_11 5 rfl rfl)
theorem dX3_commit_263 : decode cX3_commit 263 = .ok (.istore 7, 2) := dk_54 7 (dk_at dksX3_commit_11 6 rfl rfl)
theorem dX3_commit_265 : decode cX3_commit 265 = .ok (.iload 7, 2) := dk_21 7 (dk_at dksX3_commit_11 8 rfl rfl)
theorem dX3_commit_267 : decode cX3_commit 267 = .ok (.aload_n 3, 1) := dk_45 (dk_at dksX3_commit_11 10 rfl rfl)
theorem dX3_commit_268 : decode cX3_commit 268 = .ok (.getfield 247, 3) := dk_180 0 247 (dk_at dksX3_commit_11 11 rfl rfl)
theorem dX3_commit_271 : decode cX3_commit 271 = .ok (.if_icmp .ge 73, 3) := dk_162 0 73 (dk_at dksX3_commit_11 14 rfl rfl)
theorem dX3_commit_274 : decode cX3_commit 274 = .ok (.aload_n 3, 1) := dk_45 (dk_at dksX3_commit_11 17 rfl rfl)
theorem dX3_commit_275 : decode cX3_commit 275 = .ok (.getfield 319, 3) := dk_180 1 63 (dk_at dksX3_commit_11 18 rfl rfl)
theorem dX3_commit_278 : decode cX3_commit 278 = .ok (.iload 7, 2) := dk_21 7 (dk_at dksX3_commit_11 21 rfl rfl)
theorem dX3_commit_280 : decode cX3_commit 280 = .ok (.iaload, 1) := dk_46 (dk_at dksX3_commit_11 23 rfl rfl)
theorem dX3_commit_281 : decode cX3_commit 281 = .ok (.iconst (-1), 1) := dk_2 (dk_at dksX3_commit_12 0 rfl rfl)
theorem dX3_commit_282 : decode cX3_commit 282 = .ok (.if_icmp .ne 6, 3) := dk_160 0 6 (dk_at dksX3_commit_12 1 rfl rfl)
theorem dX3_commit_285 : decode cX3_commit 285 = .ok (.goto 53, 3) := dk_167 0 53 (dk_at dksX3_commit_12 4 rfl rfl)
theorem dX3_commit_288 : decode cX3_commit 288 = .ok (.aload_n 0, 1) := dk_42 (dk_at dksX3_commit_12 7 rfl rfl)
theorem dX3_commit_289 : decode cX3_commit 289 = .ok (.getfield 19, 3) := dk_180 0 19 (dk_at dksX3_commit_12 8 rfl rfl)
theorem dX3_commit_292 : decode cX3_commit 292 = .ok (.aload_n 3, 1) := dk_45 (dk_at dksX3_commit_12 11 rfl rfl)
theorem dX3_commit_293 : decode cX3_commit 293 = .ok (.getfield 319, 3) := dk_180 1 63 (dk_at dksX3_commit_12 12 rfl rfl)
theorem dX3_commit_296 : decode cX3_commit 296 = .ok (.iload 7, 2) := dk_21 7 (dk_at dksX3_commit_12 15 rfl rfl)
theorem dX3_commit_298 : decode cX3_commit 298 = .ok (.iaload, 1) := dk_46 (dk_at dksX3_commit_12 17 rfl rfl)
theorem dX3_commit_299 : decode cX3_commit 299 = .ok (.invokevirtual 69, 3) := dk_182 0 69 (dk_at dksX3_commit_12 18 rfl rfl)
theorem dX3_commit_302 : decode cX3_commit 302 = .ok (.checkcast 159, 3) := dk_192 0 159 (dk_at dksX3_commit_12 21 rfl rfl)
theorem dX3_commit_305 : decode cX3_commit 305 = .ok (.astore 8, 2) := dk_58 8 (dk_at dksX3_commit_13 0 rfl rfl)
theorem dX3_commit_307 : decode cX3_commit 307 = .ok (.aload_n 0, 1) := dk_42 (dk_at dksX3_commit_13 2 rfl rfl)
theorem dX3_commit_308 : decode cX3_commit 308 = .ok (.iload 6, 2) := dk_21 6 (dk_at dksX3_commit_13 3 rfl rfl)
theorem dX3_commit_310 : decode cX3_commit 310 = .ok (.aload 8, 2) := dk_25 8 (dk_at dksX3_commit_13 5 rfl rfl)
theorem dX3_commit_312 : decode cX3_commit 312 = .ok (.getfield 175, 3) := dk_180 0 175 (dk_at dksX3_commit_13 7 rfl rfl)
theorem dX3_commit_315 : decode cX3_commit 315 = .ok (.invokevirtual 331, 3) := dk_182 1 75 (dk_at dksX3_commit_13 10 rfl rfl)
theorem dX3_commit_318 : decode cX3_commit 318 = .ok (.aload_n 0, 1) := dk_42 (dk_at dksX3_commit_13 13 rfl rfl)
theorem dX3_commit_319 : decode cX3_commit 319 = .ok (.aload_n 3, 1) := dk_45 (dk_at dksX3_commit_13 14 rfl rfl)
theorem dX3_commit_320 : decode cX3_commit 320 = .ok (.getfield 129, 3) := dk_180 0 129 (dk_at dksX3_commit_13 15 rfl rfl)
theorem dX3_commit_323 : decode cX3_commit 323 = .ok (.aload_n 3, 1) := dk_45 (dk_at dksX3_commit_13 18 rfl rfl)
theorem dX3_commit_324 : decode cX3_commit 324 = .ok (.iload 7, 2) := dk_21 7 (dk_at dksX3_commit_13 19 rfl rfl)
theorem dX3_commit_326 : decode cX3_commit 326 = .ok (.invokestatic 347, 3) := dk_184 1 91 (dk_at dksX3_commit_13 21 rfl rfl)
theorem dX3_commit_329 : decode cX3_commit 329 = .ok (.iaload, 1) := dk_46 (dk_at dksX3_commit_14 0 rfl rfl)
theorem dX3_commit_330 : decode cX3_commit 330 = .ok (.aload 8, 2) := dk_25 8 (dk_at dksX3_commit_14 1 rfl rfl)
theorem dX3_commit_332 : decode cX3_commit 332 = .ok (.getfield 175, 3) := dk_180 0 175 (dk_at dksX3_commit_14 3 rfl rfl)
theorem dX3_commit_335 : decode cX3_commit 335 = .ok (.invokevirtual 331, 3) := dk_182 1 75 (dk_at dksX3_commit_14 6 rfl rfl)
theorem dX3_commit_338 : decode cX3_commit 338 = .ok (.iinc 7 1, 3) := dk_132 7 1 (dk_at dksX3_commit_14 9 rfl rfl)
theorem dX3_commit_341 : decode cX3_commit 341 = .ok (.goto (-76), 3) := dk_167 255 180 (dk_at dksX3_commit_14 12 rfl rfl)
theorem dX3_commit_344 : decode cX3_commit 344 = .ok (.aload_n 0, 1) := dk_42 (dk_at dksX3_commit_14 15 rfl rfl)
theorem dX3_commit_345 : decode cX3_commit 345 = .ok (.aload_n 3, 1) := dk_45 (dk_at dksX3_commit_14 16 rfl rfl)
theorem dX3_commit_346 : decode cX3_commit 346 = .ok (.aload_n 0, 1) := dk_42 (dk_at dksX3_commit_14 17 rfl rfl)
theorem dX3_commit_347 : decode cX3_commit 347 = .ok (.iload 6, 2) := dk_21 6 (dk_at dksX3_commit_14 18 rfl rfl)
theorem dX3_commit_349 : decode cX3_commit 349 = .ok (.iconst (-1), 1) := dk_2 (dk_at dksX3_commit_14 20 rfl rfl)
theorem dX3_commit_350 : decode cX3_commit 350 = .ok (.iconst 4, 1) := dk_7 (dk_at dksX3_commit_14 21 rfl rfl)
theorem dX3_commit_351 : decode cX3_commit 351 = .ok (.invokevirtual 87, 3) := dk_182 0 87 (dk_at dksX3_commit_15 0 rfl rfl)
theorem dX3_commit_354 : decode cX3_commit 354 = .ok (.invokevirtual 256, 3) := dk_182 1 0 (dk_at dksX3_commit_15 3 rfl rfl)
theorem dX3_commit_357 : decode cX3_commit 357 = .ok (.aload_n 0, 1) := dk_42 (dk_at dksX3_commit_15 6 rfl rfl)
theorem dX3_commit_358 : decode cX3_commit 358 = .ok (.dup, 1) := dk_89 (dk_at dksX3_commit_15 7 rfl rfl)
theorem dX3_commit_359 : decode cX3_commit 359 = .ok (.getfield 350, 3) := dk_180 1 94 (dk_at dksX3_commit_15 8 rfl rfl)
theorem dX3_commit_362 : decode cX3_commit 362 = .ok (.iconst 1, 1) := dk_4 (dk_at dksX3_commit_15 11 rfl rfl)
theorem dX3_commit_363 : decode cX3_commit 363 = .ok (.iadd, 1) := dk_96 (dk_at dksX3_commit_15 12 rfl rfl)
theorem dX3_commit_364 : decode cX3_commit 364 = .ok (.putfield 350, 3) := dk_181 1 94 (dk_at dksX3_commit_15 13 rfl rfl)
theorem dX3_commit_367 : decode cX3_commit 367 = .ok (.aload_n 0, 1) := dk_42 (dk_at dksX3_commit_15 16 rfl rfl)
theorem dX3_commit_368 : decode cX3_commit 368 = .ok (.getfield 25, 3) := dk_180 0 25 (dk_at dksX3_commit_15 17 rfl rfl)
theorem dX3_commit_371 : decode cX3_commit 371 = .ok (.invokevirtual 353, 3) := dk_182 1 97 (dk_at dksX3_commit_15 20 rfl rfl)
theorem dX3_commit_374 : decode cX3_commit 374 = .ok (.aload 4, 2) := dk_25 4 (dk_at dksX3_commit_16 0 rfl rfl)
theorem dX3_commit_376 : decode cX3_commit 376 = .ok (.aload_n 3, 1) := dk_45 (dk_at dksX3_commit_16 2 rfl rfl)
theorem dX3_commit_377 : decode cX3_commit 377 = .ok (.getfield 129, 3) := dk_180 0 129 (dk_at dksX3_commit_16 3 rfl rfl)
theorem dX3_commit_380 : decode cX3_commit 380 = .ok (.iconst 2, 1) := dk_5 (dk_at dksX3_commit_16 6 rfl rfl)
theorem dX3_commit_381 : decode cX3_commit 381 = .ok (.aload 4, 2) := dk_25 4 (dk_at dksX3_commit_16 7 rfl rfl)
theorem dX3_commit_383 : decode cX3_commit 383 = .ok (.getfield 260, 3) := dk_180 1 4 (dk_at dksX3_commit_16 9 rfl rfl)
theorem dX3_commit_386 : decode cX3_commit 386 = .ok (.imul, 1) := dk_104 (dk_at dksX3_commit_16 12 rfl rfl)
theorem dX3_commit_387 : decode cX3_commit 387 = .ok (.iaload, 1) := dk_46 (dk_at dksX3_commit_16 13 rfl rfl)
theorem dX3_commit_388 : decode cX3_commit 388 = .ok (.putfield 181, 3) := dk_181 0 181 (dk_at dksX3_commit_16 14 rfl rfl)
theorem dX3_commit_391 : decode cX3_commit 391 = .ok (.aload 4, 2) := dk_25 4 (dk_at dksX3_commit_16 17 rfl rfl)
theorem dX3_commit_393 : decode cX3_commit 393 = .ok (.aload_n 3, 1) := dk_45 (dk_at dksX3_commit_16 19 rfl rfl)
theorem dX3_commit_394 : decode cX3_commit 394 = .ok (.iconst 0, 1) := dk_3 (dk_at dksX3_commit_16 20 rfl rfl)
theorem dX3_commit_395 : decode cX3_commit 395 = .ok (.invokestatic 356, 3) := dk_184 1 100 (dk_at dksX3_commit_16 21 rfl rfl)
theorem dX3_commit_398 : decode cX3_commit 398 = .ok (.aload_n 0, 1) := dk_42 (dk_at dksX3_commit_17 0 rfl rfl)
theorem dX3_commit_399 : decode cX3_commit 399 = .ok (.aload 4, 2) := dk_25 4 (dk_at dksX3_commit_17 1 rfl rfl)
theorem dX3_commit_401 : decode cX3_commit 401 = .ok (.aload_n 3, 1) := dk_45 (dk_at dksX3_commit_17 3 rfl rfl)
theorem dX3_commit_402 : decode cX3_commit 402 = .ok (.invokevirtual 263, 3) := dk_182 1 7 (dk_at dksX3_commit_17 4 rfl rfl)
theorem dX3_commit_405 : decode cX3_commit 405 = .ok (.aload_n 0, 1) := dk_42 (dk_at dksX3_commit_17 7 rfl rfl)
theorem dX3_commit_406 : decode cX3_commit 406 = .ok (.invokevirtual 244, 3) := dk_182 0 244 (dk_at dksX3_commit_17 8 rfl rfl)
theorem dX3_commit_409 : decode cX3_commit 409 = .ok (.aload_n 3, 1) := dk_45 (dk_at dksX3_commit_17 11 rfl rfl)
theorem dX3_commit_410 : decode cX3_commit 410 = .ok (.getfield 214, 3) := dk_180 0 214 (dk_at dksX3_commit_17 12 rfl rfl)
theorem dX3_commit_413 : decode cX3_commit 413 = .ok (.ireturn, 1) := dk_172 (dk_at dksX3_commit_17 15 rfl rfl)
abbrev cX3_blanks : ByteArray := prog_15_method_17_code
def yX3_blanks : MethodName := ⟨RX3, "blanks", "(LKeygroveModel$Epoch;I)V"⟩
def dkwX3_blanks_1 : List UInt8 := [180, 0, 129, 28, 2, 79, 42, 180, 0, 139, 28, 3, 79, 132, 2, 1, 167, 255, 220, 177]
abbrev dktX3_blanks_1 : List UInt8 := dkwX3_blanks_1 ++ []
def dkwX3_blanks_0 : List UInt8 := [3, 61, 28, 42, 182, 0, 150, 162, 0, 34, 28, 27, 184, 0, 153, 154, 0, 6, 167, 0, 17, 42]
abbrev dktX3_blanks_0 : List UInt8 := dkwX3_blanks_0 ++ dktX3_blanks_1
theorem dksX3_blanks_0 : cX3_blanks.data.toList.drop 0 = dktX3_blanks_0 := by decide +kernel
theorem dksX3_blanks_1 : cX3_blanks.data.toList.drop 22 = dktX3_blanks_1 := dk_seg dksX3_blanks_0 22 rfl rfl
theorem dX3_blanks_0 : decode cX3_blanks 0 = .ok (.iconst 0, 1) := dk_3 (dk_at dksX3_blanks_0 0 rfl rfl)
theorem dX3_blanks_1 : decode cX3_blanks 1 = .ok (.istore_n 2, 1) := dk_61 (dk_at dksX3_blanks_0 1 rfl rfl)
theorem dX3_blanks_2 : decode cX3_blanks 2 = .ok (.iload_n 2, 1) := dk_28 (dk_at dksX3_blanks_0 2 rfl rfl)
theorem dX3_blanks_3 : decode cX3_blanks 3 = .ok (.aload_n 0, 1) := dk_42 (dk_at dksX3_blanks_0 3 rfl rfl)
theorem dX3_blanks_4 : decode cX3_blanks 4 = .ok (.invokevirtual 150, 3) := dk_182 0 150 (dk_at dksX3_blanks_0 4 rfl rfl)
theorem dX3_blanks_7 : decode cX3_blanks 7 = .ok (.if_icmp .ge 34, 3) := dk_162 0 34 (dk_at dksX3_blanks_0 7 rfl rfl)
theorem dX3_blanks_10 : decode cX3_blanks 10 = .ok (.iload_n 2, 1) := dk_28 (dk_at dksX3_blanks_0 10 rfl rfl)
theorem dX3_blanks_11 : decode cX3_blanks 11 = .ok (.iload_n 1, 1) := dk_27 (dk_at dksX3_blanks_0 11 rfl rfl)
theorem dX3_blanks_12 : decode cX3_blanks 12 = .ok (.invokestatic 153, 3) := dk_184 0 153 (dk_at dksX3_blanks_0 12 rfl rfl)
theorem dX3_blanks_15 : decode cX3_blanks 15 = .ok (.ifCond .ne 6, 3) := dk_154 0 6 (dk_at dksX3_blanks_0 15 rfl rfl)
theorem dX3_blanks_18 : decode cX3_blanks 18 = .ok (.goto 17, 3) := dk_167 0 17 (dk_at dksX3_blanks_0 18 rfl rfl)
theorem dX3_blanks_21 : decode cX3_blanks 21 = .ok (.aload_n 0, 1) := dk_42 (dk_at dksX3_blanks_0 21 rfl rfl)
theorem dX3_blanks_22 : decode cX3_blanks 22 = .ok (.getfield 129, 3) := dk_180 0 129 (dk_at dksX3_blanks_1 0 rfl rfl)
theorem dX3_blanks_25 : decode cX3_blanks 25 = .ok (.iload_n 2, 1) := dk_28 (dk_at dksX3_blanks_1 3 rfl rfl)
theorem dX3_blanks_26 : decode cX3_blanks 26 = .ok (.iconst (-1), 1) := dk_2 (dk_at dksX3_blanks_1 4 rfl rfl)
theorem dX3_blanks_27 : decode cX3_blanks 27 = .ok (.iastore, 1) := dk_79 (dk_at dksX3_blanks_1 5 rfl rfl)
theorem dX3_blanks_28 : decode cX3_blanks 28 = .ok (.aload_n 0, 1) := dk_42 (dk_at dksX3_blanks_1 6 rfl rfl)
theorem dX3_blanks_29 : decode cX3_blanks 29 = .ok (.getfield 139, 3) := dk_180 0 139 (dk_at dksX3_blanks_1 7 rfl rfl)
theorem dX3_blanks_32 : decode cX3_blanks 32 = .ok (.iload_n 2, 1) := dk_28 (dk_at dksX3_blanks_1 10 rfl rfl)
theorem dX3_blanks_33 : decode cX3_blanks 33 = .ok (.iconst 0, 1) := dk_3 (dk_at dksX3_blanks_1 11 rfl rfl)
theorem dX3_blanks_34 : decode cX3_blanks 34 = .ok (.iastore, 1) := dk_79 (dk_at dksX3_blanks_1 12 rfl rfl)
theorem dX3_blanks_35 : decode cX3_blanks 35 = .ok (.iinc 2 1, 3) := dk_132 2 1 (dk_at dksX3_blanks_1 13 rfl rfl)
theorem dX3_blanks_38 : decode cX3_blanks 38 = .ok (.goto (-36), 3) := dk_167 255 220 (dk_at dksX3_blanks_1 16 rfl rfl)
theorem dX3_blanks_41 : decode cX3_blanks 41 = .ok (.return_, 1) := dk_177 (dk_at dksX3_blanks_1 19 rfl rfl)
abbrev cX3_isAbove : ByteArray := prog_15_method_12_code
def yX3_isAbove : MethodName := ⟨RX3, "isAbove", "(II)Z"⟩
def dkwX3_isAbove_1 : List UInt8 := [167, 0, 4, 3, 172]
abbrev dktX3_isAbove_1 : List UInt8 := dkwX3_isAbove_1 ++ []
def dkwX3_isAbove_0 : List UInt8 := [26, 184, 0, 126, 61, 28, 158, 0, 20, 27, 28, 122, 26, 4, 96, 28, 4, 96, 122, 160, 0, 7, 4]
abbrev dktX3_isAbove_0 : List UInt8 := dkwX3_isAbove_0 ++ dktX3_isAbove_1
theorem dksX3_isAbove_0 : cX3_isAbove.data.toList.drop 0 = dktX3_isAbove_0 := by decide +kernel
theorem dksX3_isAbove_1 : cX3_isAbove.data.toList.drop 23 = dktX3_isAbove_1 := dk_seg dksX3_isAbove_0 23 rfl rfl
theorem dX3_isAbove_0 : decode cX3_isAbove 0 = .ok (.iload_n 0, 1) := dk_26 (dk_at dksX3_isAbove_0 0 rfl rfl)
theorem dX3_isAbove_1 : decode cX3_isAbove 1 = .ok (.invokestatic 126, 3) := dk_184 0 126 (dk_at dksX3_isAbove_0 1 rfl rfl)
theorem dX3_isAbove_4 : decode cX3_isAbove 4 = .ok (.istore_n 2, 1) := dk_61 (dk_at dksX3_isAbove_0 4 rfl rfl)
theorem dX3_isAbove_5 : decode cX3_isAbove 5 = .ok (.iload_n 2, 1) := dk_28 (dk_at dksX3_isAbove_0 5 rfl rfl)
theorem dX3_isAbove_6 : decode cX3_isAbove 6 = .ok (.ifCond .le 20, 3) := dk_158 0 20 (dk_at dksX3_isAbove_0 6 rfl rfl)
theorem dX3_isAbove_9 : decode cX3_isAbove 9 = .ok (.iload_n 1, 1) := dk_27 (dk_at dksX3_isAbove_0 9 rfl rfl)
theorem dX3_isAbove_10 : decode cX3_isAbove 10 = .ok (.iload_n 2, 1) := dk_28 (dk_at dksX3_isAbove_0 10 rfl rfl)
theorem dX3_isAbove_11 : decode cX3_isAbove 11 = .ok (.ishr, 1) := dk_122 (dk_at dksX3_isAbove_0 11 rfl rfl)
theorem dX3_isAbove_12 : decode cX3_isAbove 12 = .ok (.iload_n 0, 1) := dk_26 (dk_at dksX3_isAbove_0 12 rfl rfl)
theorem dX3_isAbove_13 : decode cX3_isAbove 13 = .ok (.iconst 1, 1) := dk_4 (dk_at dksX3_isAbove_0 13 rfl rfl)
theorem dX3_isAbove_14 : decode cX3_isAbove 14 = .ok (.iadd, 1) := dk_96 (dk_at dksX3_isAbove_0 14 rfl rfl)
theorem dX3_isAbove_15 : decode cX3_isAbove 15 = .ok (.iload_n 2, 1) := dk_28 (dk_at dksX3_isAbove_0 15 rfl rfl)
theorem dX3_isAbove_16 : decode cX3_isAbove 16 = .ok (.iconst 1, 1) := dk_4 (dk_at dksX3_isAbove_0 16 rfl rfl)
theorem dX3_isAbove_17 : decode cX3_isAbove 17 = .ok (.iadd, 1) := dk_96 (dk_at dksX3_isAbove_0 17 rfl rfl)
theorem dX3_isAbove_18 : decode cX3_isAbove 18 = .ok (.ishr, 1) := dk_122 (dk_at dksX3_isAbove_0 18 rfl rfl)
theorem dX3_isAbove_19 : decode cX3_isAbove 19 = .ok (.if_icmp .ne 7, 3) := dk_160 0 7 (dk_at dksX3_isAbove_0 19 rfl rfl)
theorem dX3_isAbove_22 : decode cX3_isAbove 22 = .ok (.iconst 1, 1) := dk_4 (dk_at dksX3_isAbove_0 22 rfl rfl)
theorem dX3_isAbove_23 : decode cX3_isAbove 23 = .ok (.goto 4, 3) := dk_167 0 4 (dk_at dksX3_isAbove_1 0 rfl rfl)
theorem dX3_isAbove_26 : decode cX3_isAbove 26 = .ok (.iconst 0, 1) := dk_3 (dk_at dksX3_isAbove_1 3 rfl rfl)
theorem dX3_isAbove_27 : decode cX3_isAbove 27 = .ok (.ireturn, 1) := dk_172 (dk_at dksX3_isAbove_1 4 rfl rfl)
abbrev cX3_level : ByteArray := prog_15_method_11_code
def yX3_level : MethodName := ⟨RX3, "level", "(I)I"⟩
def dkwX3_level_0 : List UInt8 := [26, 4, 96, 184, 0, 122, 172]
abbrev dktX3_level_0 : List UInt8 := dkwX3_level_0 ++ []
theorem dksX3_level_0 : cX3_level.data.toList.drop 0 = dktX3_level_0 := by decide +kernel
theorem dX3_level_0 : decode cX3_level 0 = .ok (.iload_n 0, 1) := dk_26 (dk_at dksX3_level_0 0 rfl rfl)
theorem dX3_level_1 : decode cX3_level 1 = .ok (.iconst 1, 1) := dk_4 (dk_at dksX3_level_0 1 rfl rfl)
theorem dX3_level_2 : decode cX3_level 2 = .ok (.iadd, 1) := dk_96 (dk_at dksX3_level_0 2 rfl rfl)
theorem dX3_level_3 : decode cX3_level 3 = .ok (.invokestatic 122, 3) := dk_184 0 122 (dk_at dksX3_level_0 3 rfl rfl)
theorem dX3_level_6 : decode cX3_level 6 = .ok (.ireturn, 1) := dk_172 (dk_at dksX3_level_0 6 rfl rfl)
abbrev cX3_removes : ByteArray := prog_15_method_47_code
def yX3_removes : MethodName := ⟨RX3, "removes", "(LKeygroveModel$Epoch;)V"⟩
def dkwX3_removes_8 : List UInt8 := [132, 2, 1, 167, 255, 231, 43, 89, 180, 0, 247, 5, 108, 181, 0, 247, 167, 255, 204, 177]
abbrev dktX3_removes_8 : List UInt8 := dkwX3_removes_8 ++ []
def dkwX3_removes_7 : List UInt8 := [100, 61, 28, 43, 182, 0, 150, 162, 0, 23, 43, 180, 0, 129, 28, 2, 79, 43, 180, 0, 139, 28, 3, 79]
abbrev dktX3_removes_7 : List UInt8 := dkwX3_removes_7 ++ dktX3_removes_8
def dkwX3_removes_6 : List UInt8 := [25, 6, 4, 181, 0, 164, 167, 255, 210, 167, 255, 116, 43, 184, 1, 59, 153, 0, 51, 43, 180, 0, 247, 4]
abbrev dktX3_removes_6 : List UInt8 := dkwX3_removes_6 ++ dktX3_removes_7
def dkwX3_removes_5 : List UInt8 := [192, 0, 159, 58, 6, 25, 6, 180, 0, 161, 21, 4, 160, 0, 17, 25, 6, 180, 1, 37, 153, 0, 9]
abbrev dktX3_removes_5 : List UInt8 := dkwX3_removes_5 ++ dktX3_removes_6
def dkwX3_removes_4 : List UInt8 := [182, 0, 97, 58, 5, 25, 5, 185, 0, 101, 1, 0, 153, 0, 42, 25, 5, 185, 0, 107, 1, 0]
abbrev dktX3_removes_4 : List UInt8 := dkwX3_removes_4 ++ dktX3_removes_5
def dkwX3_removes_3 : List UInt8 := [180, 0, 129, 5, 45, 180, 1, 27, 104, 2, 79, 43, 45, 180, 1, 27, 184, 1, 56, 42, 180, 0, 19]
abbrev dktX3_removes_3 : List UInt8 := dkwX3_removes_3 ++ dktX3_removes_4
def dkwX3_removes_2 : List UInt8 := [46, 54, 4, 43, 180, 1, 52, 45, 180, 1, 27, 4, 84, 43, 180, 0, 254, 45, 180, 1, 27, 2, 79, 43]
abbrev dktX3_removes_2 : List UInt8 := dkwX3_removes_2 ++ dktX3_removes_3
def dkwX3_removes_1 : List UInt8 := [192, 1, 21, 78, 45, 180, 1, 23, 16, 114, 159, 0, 6, 167, 255, 228, 43, 180, 0, 254, 45, 180, 1, 27]
abbrev dktX3_removes_1 : List UInt8 := dkwX3_removes_1 ++ dktX3_removes_2
def dkwX3_removes_0 : List UInt8 := [42, 180, 0, 25, 182, 0, 97, 77, 44, 185, 0, 101, 1, 0, 153, 0, 137, 44, 185, 0, 107, 1, 0]
abbrev dktX3_removes_0 : List UInt8 := dkwX3_removes_0 ++ dktX3_removes_1
theorem dksX3_removes_0 : cX3_removes.data.toList.drop 0 = dktX3_removes_0 := by decide +kernel
theorem dksX3_removes_1 : cX3_removes.data.toList.drop 23 = dktX3_removes_1 := dk_seg dksX3_removes_0 23 rfl rfl
theorem dksX3_removes_2 : cX3_removes.data.toList.drop 47 = dktX3_removes_2 := dk_seg dksX3_removes_1 24 rfl rfl
theorem dksX3_removes_3 : cX3_removes.data.toList.drop 71 = dktX3_removes_3 := dk_seg dksX3_removes_2 24 rfl rfl
theorem dksX3_removes_4 : cX3_removes.data.toList.drop 94 = dktX3_removes_4 := dk_seg dksX3_removes_3 23 rfl rfl
theorem dksX3_removes_5 : cX3_removes.data.toList.drop 116 = dktX3_removes_5 := dk_seg dksX3_removes_4 22 rfl rfl
theorem dksX3_removes_6 : cX3_removes.data.toList.drop 139 = dktX3_removes_6 := dk_seg dksX3_removes_5 23 rfl rfl
theorem dksX3_removes_7 : cX3_removes.data.toList.drop 163 = dktX3_removes_7 := dk_seg dksX3_removes_6 24 rfl rfl
theorem dksX3_removes_8 : cX3_removes.data.toList.drop 187 = dktX3_removes_8 := dk_seg dksX3_removes_7 24 rfl rfl
theorem dX3_removes_0 : decode cX3_removes 0 = .ok (.aload_n 0, 1) := dk_42 (dk_at dksX3_removes_0 0 rfl rfl)
theorem dX3_removes_1 : decode cX3_removes 1 = .ok (.getfield 25, 3) := dk_180 0 25 (dk_at dksX3_removes_0 1 rfl rfl)
theorem dX3_removes_4 : decode cX3_removes 4 = .ok (.invokevirtual 97, 3) := dk_182 0 97 (dk_at dksX3_removes_0 4 rfl rfl)
theorem dX3_removes_7 : decode cX3_removes 7 = .ok (.astore_n 2, 1) := dk_77 (dk_at dksX3_removes_0 7 rfl rfl)
theorem dX3_removes_8 : decode cX3_removes 8 = .ok (.aload_n 2, 1) := dk_44 (dk_at dksX3_removes_0 8 rfl rfl)
theorem dX3_removes_9 : decode cX3_removes 9 = .ok (.invokeinterface 101 1, 5) := by decide +kernel
theorem dX3_removes_14 : decode cX3_removes 14 = .ok (.ifCond .eq 137, 3) := dk_153 0 137 (dk_at dksX3_removes_0 14 rfl rfl)
theorem dX3_removes_17 : decode cX3_removes 17 = .ok (.aload_n 2, 1) := dk_44 (dk_at dksX3_removes_0 17 rfl rfl)
theorem dX3_removes_18 : decode cX3_removes 18 = .ok (.invokeinterface 107 1, 5) := by decide +kernel
theorem dX3_removes_23 : decode cX3_removes 23 = .ok (.checkcast 277, 3) := dk_192 1 21 (dk_at dksX3_removes_1 0 rfl rfl)
theorem dX3_removes_26 : decode cX3_removes 26 = .ok (.astore_n 3, 1) := dk_78 (dk_at dksX3_removes_1 3 rfl rfl)
theorem dX3_removes_27 : decode cX3_removes 27 = .ok (.aload_n 3, 1) := dk_45 (dk_at dksX3_removes_1 4 rfl rfl)
theorem dX3_removes_28 : decode cX3_removes 28 = .ok (.getfield 279, 3) := dk_180 1 23 (dk_at dksX3_removes_1 5 rfl rfl)
theorem dX3_removes_31 : decode cX3_removes 31 = .ok (.bipush 114, 2) := dk_16 114 (dk_at dksX3_removes_1 8 rfl rfl)
theorem dX3_removes_33 : decode cX3_removes 33 = .ok (.if_icmp .eq 6, 3) := dk_159 0 6 (dk_at dksX3_removes_1 10 rfl rfl)
theorem dX3_removes_36 : decode cX3_removes 36 = .ok (.goto (-28), 3) := dk_167 255 228 (dk_at dksX3_removes_1 13 rfl rfl)
theorem dX3_removes_39 : decode cX3_removes 39 = .ok (.aload_n 1, 1) := dk_43 (dk_at dksX3_removes_1 16 rfl rfl)
theorem dX3_removes_40 : decode cX3_removes 40 = .ok (.getfield 254, 3) := dk_180 0 254 (dk_at dksX3_removes_1 17 rfl rfl)
theorem dX3_removes_43 : decode cX3_removes 43 = .ok (.aload_n 3, 1) := dk_45 (dk_at dksX3_removes_1 20 rfl rfl)
theorem dX3_removes_44 : decode cX3_removes 44 = .ok (.getfield 283, 3) := dk_180 1 27 (dk_at dksX3_removes_1 21 rfl rfl)
theorem dX3_removes_47 : decode cX3_removes 47 = .ok (.iaload, 1) := dk_46 (dk_at dksX3_removes_2 0 rfl rfl)
theorem dX3_removes_48 : decode cX3_removes 48 = .ok (.istore 4, 2) := dk_54 4 (dk_at dksX3_removes_2 1 rfl rfl)
theorem dX3_removes_50 : decode cX3_removes 50 = .ok (.aload_n 1, 1) := dk_43 (dk_at dksX3_removes_2 3 rfl rfl)
theorem dX3_removes_51 : decode cX3_removes 51 = .ok (.getfield 308, 3) := dk_180 1 52 (dk_at dksX3_removes_2 4 rfl rfl)
theorem dX3_removes_54 : decode cX3_removes 54 = .ok (.aload_n 3, 1) := dk_45 (dk_at dksX3_removes_2 7 rfl rfl)
theorem dX3_removes_55 : decode cX3_removes 55 = .ok (.getfield 283, 3) := dk_180 1 27 (dk_at dksX3_removes_2 8 rfl rfl)
theorem dX3_removes_58 : decode cX3_removes 58 = .ok (.iconst 1, 1) := dk_4 (dk_at dksX3_removes_2 11 rfl rfl)
theorem dX3_removes_59 : decode cX3_removes 59 = .ok (.bastore, 1) := dk_84 (dk_at dksX3_removes_2 12 rfl rfl)
theorem dX3_removes_60 : decode cX3_removes 60 = .ok (.aload_n 1, 1) := dk_43 (dk_at dksX3_removes_2 13 rfl rfl)
theorem dX3_removes_61 : decode cX3_removes 61 = .ok (.getfield 254, 3) := dk_180 0 254 (dk_at dksX3_removes_2 14 rfl rfl)
theorem dX3_removes_64 : decode cX3_removes 64 = .ok (.aload_n 3, 1) := dk_45 (dk_at dksX3_removes_2 17 rfl rfl)
theorem dX3_removes_65 : decode cX3_removes 65 = .ok (.getfield 283, 3) := dk_180 1 27 (dk_at dksX3_removes_2 18 rfl rfl)
theorem dX3_removes_68 : decode cX3_removes 68 = .ok (.iconst (-1), 1) := dk_2 (dk_at dksX3_removes_2 21 rfl rfl)
theorem dX3_removes_69 : decode cX3_removes 69 = .ok (.iastore, 1) := dk_79 (dk_at dksX3_removes_2 22 rfl rfl)
theorem dX3_removes_70 : decode cX3_removes 70 = .ok (.aload_n 1, 1) := dk_43 (dk_at dksX3_removes_2 23 rfl rfl)
theorem dX3_removes_71 : decode cX3_removes 71 = .ok (.getfield 129, 3) := dk_180 0 129 (dk_at dksX3_removes_3 0 rfl rfl)
theorem dX3_removes_74 : decode cX3_removes 74 = .ok (.iconst 2, 1) := dk_5 (dk_at dksX3_removes_3 3 rfl rfl)
theorem dX3_removes_75 : decode cX3_removes 75 = .ok (.aload_n 3, 1) := dk_45 (dk_at dksX3_removes_3 4 rfl rfl)
theorem dX3_removes_76 : decode cX3_removes 76 = .ok (.getfield 283, 3) := dk_180 1 27 (dk_at dksX3_removes_3 5 rfl rfl)
theorem dX3_removes_79 : decode cX3_removes 79 = .ok (.imul, 1) := dk_104 (dk_at dksX3_removes_3 8 rfl rfl)
theorem dX3_removes_80 : decode cX3_removes 80 = .ok (.iconst (-1), 1) := dk_2 (dk_at dksX3_removes_3 9 rfl rfl)
theorem dX3_removes_81 : decode cX3_removes 81 = .ok (.iastore, 1) := dk_79 (dk_at dksX3_removes_3 10 rfl rfl)
theorem dX3_removes_82 : decode cX3_removes 82 = .ok (.aload_n 1, 1) := dk_43 (dk_at dksX3_removes_3 11 rfl rfl)
theorem dX3_removes_83 : decode cX3_removes 83 = .ok (.aload_n 3, 1) := dk_45 (dk_at dksX3_removes_3 12 rfl rfl)
theorem dX3_removes_84 : decode cX3_removes 84 = .ok (.getfield 283, 3) := dk_180 1 27 (dk_at dksX3_removes_3 13 rfl rfl)
theorem dX3_removes_87 : decode cX3_removes 87 = .ok (.invokestatic 312, 3) := dk_184 1 56 (dk_at dksX3_removes_3 16 rfl rfl)
theorem dX3_removes_90 : decode cX3_removes 90 = .ok (.aload_n 0, 1) := dk_42 (dk_at dksX3_removes_3 19 rfl rfl)
theorem dX3_removes_91 : decode cX3_removes 91 = .ok (.getfield 19, 3) := dk_180 0 19 (dk_at dksX3_removes_3 20 rfl rfl)
theorem dX3_removes_94 : decode cX3_removes 94 = .ok (.invokevirtual 97, 3) := dk_182 0 97 (dk_at dksX3_removes_4 0 rfl rfl)
theorem dX3_removes_97 : decode cX3_removes 97 = .ok (.astore 5, 2) := dk_58 5 (dk_at dksX3_removes_4 3 rfl rfl)
theorem dX3_removes_99 : decode cX3_removes 99 = .ok (.aload 5, 2) := dk_25 5 (dk_at dksX3_removes_4 5 rfl rfl)
theorem dX3_removes_101 : decode cX3_removes 101 = .ok (.invokeinterface 101 1, 5) := by decide +kernel
theorem dX3_removes_106 : decode cX3_removes 106 = .ok (.ifCond .eq 42, 3) := dk_153 0 42 (dk_at dksX3_removes_4 12 rfl rfl)
theorem dX3_removes_109 : decode cX3_removes 109 = .ok (.aload 5, 2) := dk_25 5 (dk_at dksX3_removes_4 15 rfl rfl)
theorem dX3_removes_111 : decode cX3_removes 111 = .ok (.invokeinterface 107 1, 5) := by decide +kernel
theorem dX3_removes_116 : decode cX3_removes 116 = .ok (.checkcast 159, 3) := dk_192 0 159 (dk_at dksX3_removes_5 0 rfl rfl)
theorem dX3_removes_119 : decode cX3_removes 119 = .ok (.astore 6, 2) := dk_58 6 (dk_at dksX3_removes_5 3 rfl rfl)
theorem dX3_removes_121 : decode cX3_removes 121 = .ok (.aload 6, 2) := dk_25 6 (dk_at dksX3_removes_5 5 rfl rfl)
theorem dX3_removes_123 : decode cX3_removes 123 = .ok (.getfield 161, 3) := dk_180 0 161 (dk_at dksX3_removes_5 7 rfl rfl)
theorem dX3_removes_126 : decode cX3_removes 126 = .ok (.iload 4, 2) := dk_21 4 (dk_at dksX3_removes_5 10 rfl rfl)
theorem dX3_removes_128 : decode cX3_removes 128 = .ok (.if_icmp .ne 17, 3) := dk_160 0 17 (dk_at dksX3_removes_5 12 rfl rfl)
theorem dX3_removes_131 : decode cX3_removes 131 = .ok (.aload 6, 2) := dk_25 6 (dk_at dksX3_removes_5 15 rfl rfl)
theorem dX3_removes_133 : decode cX3_removes 133 = .ok (.getfield 293, 3) := dk_180 1 37 (dk_at dksX3_removes_5 17 rfl rfl)
theorem dX3_removes_136 : decode cX3_removes 136 = .ok (.ifCond .eq 9, 3) := dk_153 0 9 (dk_at dksX3_removes_5 20 rfl rfl)
theorem dX3_removes_139 : decode cX3_removes 139 = .ok (.aload 6, 2) := dk_25 6 (dk_at dksX3_removes_6 0 rfl rfl)
theorem dX3_removes_141 : decode cX3_removes 141 = .ok (.iconst 1, 1) := dk_4 (dk_at dksX3_removes_6 2 rfl rfl)
theorem dX3_removes_142 : decode cX3_removes 142 = .ok (.putfield 164, 3) := dk_181 0 164 (dk_at dksX3_removes_6 3 rfl rfl)
theorem dX3_removes_145 : decode cX3_removes 145 = .ok (.goto (-46), 3) := dk_167 255 210 (dk_at dksX3_removes_6 6 rfl rfl)
theorem dX3_removes_148 : decode cX3_removes 148 = .ok (.goto (-140), 3) := dk_167 255 116 (dk_at dksX3_removes_6 9 rfl rfl)
theorem dX3_removes_151 : decode cX3_removes 151 = .ok (.aload_n 1, 1) := dk_43 (dk_at dksX3_removes_6 12 rfl rfl)
theorem dX3_removes_152 : decode cX3_removes 152 = .ok (.invokestatic 315, 3) := dk_184 1 59 (dk_at dksX3_removes_6 13 rfl rfl)
theorem dX3_removes_155 : decode cX3_removes 155 = .ok (.ifCond .eq 51, 3) := dk_153 0 51 (dk_at dksX3_removes_6 16 rfl rfl)
theorem dX3_removes_158 : decode cX3_removes 158 = .ok (.aload_n 1, 1) := dk_43 (dk_at dksX3_removes_6 19 rfl rfl)
theorem dX3_removes_159 : decode cX3_removes 159 = .ok (.getfield 247, 3) := dk_180 0 247 (dk_at dksX3_removes_6 20 rfl rfl)
theorem dX3_removes_162 : decode cX3_removes 162 = .ok (.iconst 1, 1) := dk_4 (dk_at dksX3_removes_6 23 rfl rfl)
theorem dX3_removes_163 : decode cX3_removes 163 = .ok (.isub, 1) := dk_100 (dk_at dksX3_removes_7 0 rfl rfl)
theorem dX3_removes_164 : decode cX3_removes 164 = .ok (.istore_n 2, 1) := dk_61 (dk_at dksX3_removes_7 1 rfl rfl)
theorem dX3_removes_165 : decode cX3_removes 165 = .ok (.iload_n 2, 1) := dk_28 (dk_at dksX3_removes_7 2 rfl rfl)
theorem dX3_removes_166 : decode cX3_removes 166 = .ok (.aload_n 1, 1) := dk_43 (dk_at dksX3_removes_7 3 rfl rfl)
theorem dX3_removes_167 : decode cX3_removes 167 = .ok (.invokevirtual 150, 3) := dk_182 0 150 (dk_at dksX3_removes_7 4 rfl rfl)
theorem dX3_removes_170 : decode cX3_removes 170 = .ok (.if_icmp .ge 23, 3) := dk_162 0 23 (dk_at dksX3_removes_7 7 rfl rfl)
theorem dX3_removes_173 : decode cX3_removes 173 = .ok (.aload_n 1, 1) := dk_43 (dk_at dksX3_removes_7 10 rfl rfl)
theorem dX3_removes_174 : decode cX3_removes 174 = .ok (.getfield 129, 3) := dk_180 0 129 (dk_at dksX3_removes_7 11 rfl rfl)
theorem dX3_removes_177 : decode cX3_removes 177 = .ok (.iload_n 2, 1) := dk_28 (dk_at dksX3_removes_7 14 rfl rfl)
theorem dX3_removes_178 : decode cX3_removes 178 = .ok (.iconst (-1), 1) := dk_2 (dk_at dksX3_removes_7 15 rfl rfl)
theorem dX3_removes_179 : decode cX3_removes 179 = .ok (.iastore, 1) := dk_79 (dk_at dksX3_removes_7 16 rfl rfl)
theorem dX3_removes_180 : decode cX3_removes 180 = .ok (.aload_n 1, 1) := dk_43 (dk_at dksX3_removes_7 17 rfl rfl)
theorem dX3_removes_181 : decode cX3_removes 181 = .ok (.getfield 139, 3) := dk_180 0 139 (dk_at dksX3_removes_7 18 rfl rfl)
theorem dX3_removes_184 : decode cX3_removes 184 = .ok (.iload_n 2, 1) := dk_28 (dk_at dksX3_removes_7 21 rfl rfl)
theorem dX3_removes_185 : decode cX3_removes 185 = .ok (.iconst 0, 1) := dk_3 (dk_at dksX3_removes_7 22 rfl rfl)
theorem dX3_removes_186 : decode cX3_removes 186 = .ok (.iastore, 1) := dk_79 (dk_at dksX3_removes_7 23 rfl rfl)
theorem dX3_removes_187 : decode cX3_removes 187 = .ok (.iinc 2 1, 3) := dk_132 2 1 (dk_at dksX3_removes_8 0 rfl rfl)
theorem dX3_removes_190 : decode cX3_removes 190 = .ok (.goto (-25), 3) := dk_167 255 231 (dk_at dksX3_removes_8 3 rfl rfl)
theorem dX3_removes_193 : decode cX3_removes 193 = .ok (.aload_n 1, 1) := dk_43 (dk_at dksX3_removes_8 6 rfl rfl)
theorem dX3_removes_194 : decode cX3_removes 194 = .ok (.dup, 1) := dk_89 (dk_at dksX3_removes_8 7 rfl rfl)
theorem dX3_removes_195 : decode cX3_removes 195 = .ok (.getfield 247, 3) := dk_180 0 247 (dk_at dksX3_removes_8 8 rfl rfl)
theorem dX3_removes_198 : decode cX3_removes 198 = .ok (.iconst 2, 1) := dk_5 (dk_at dksX3_removes_8 11 rfl rfl)
theorem dX3_removes_199 : decode cX3_removes 199 = .ok (.idiv, 1) := dk_108 (dk_at dksX3_removes_8 12 rfl rfl)
theorem dX3_removes_200 : decode cX3_removes 200 = .ok (.putfield 247, 3) := dk_181 0 247 (dk_at dksX3_removes_8 13 rfl rfl)
theorem dX3_removes_203 : decode cX3_removes 203 = .ok (.goto (-52), 3) := dk_167 255 204 (dk_at dksX3_removes_8 16 rfl rfl)
theorem dX3_removes_206 : decode cX3_removes 206 = .ok (.return_, 1) := dk_177 (dk_at dksX3_removes_8 19 rfl rfl)
abbrev cX3_isRightBlank : ByteArray := prog_15_method_46_code
def yX3_isRightBlank : MethodName := ⟨RX3, "isRightBlank", "(LKeygroveModel$Epoch;)Z"⟩
def dkwX3_isRightBlank_2 : List UInt8 := [126, 60, 132, 2, 1, 167, 255, 225, 27, 172]
abbrev dktX3_isRightBlank_2 : List UInt8 := dkwX3_isRightBlank_2 ++ []
def dkwX3_isRightBlank_1 : List UInt8 := [180, 0, 247, 162, 0, 29, 27, 42, 180, 0, 129, 5, 28, 104, 46, 2, 160, 0, 7, 4, 167, 0, 4, 3]
abbrev dktX3_isRightBlank_1 : List UInt8 := dkwX3_isRightBlank_1 ++ dktX3_isRightBlank_2
def dkwX3_isRightBlank_0 : List UInt8 := [42, 180, 0, 247, 4, 164, 0, 7, 4, 167, 0, 4, 3, 60, 42, 180, 0, 247, 5, 108, 61, 28, 42]
abbrev dktX3_isRightBlank_0 : List UInt8 := dkwX3_isRightBlank_0 ++ dktX3_isRightBlank_1
theorem dksX3_isRightBlank_0 : cX3_isRightBlank.data.toList.drop 0 = dktX3_isRightBlank_0 := by decide +kernel
theorem dksX3_isRightBlank_1 : cX3_isRightBlank.data.toList.drop 23 = dktX3_isRightBlank_1 := dk_seg dksX3_isRightBlank_0 23 rfl rfl
theorem dksX3_isRightBlank_2 : cX3_isRightBlank.data.toList.drop 47 = dktX3_isRightBlank_2 := dk_seg dksX3_isRightBlank_1 24 rfl rfl
theorem dX3_isRightBlank_0 : decode cX3_isRightBlank 0 = .ok (.aload_n 0, 1) := dk_42 (dk_at dksX3_isRightBlank_0 0 rfl rfl)
theorem dX3_isRightBlank_1 : decode cX3_isRightBlank 1 = .ok (.getfield 247, 3) := dk_180 0 247 (dk_at dksX3_isRightBlank_0 1 rfl rfl)
theorem dX3_isRightBlank_4 : decode cX3_isRightBlank 4 = .ok (.iconst 1, 1) := dk_4 (dk_at dksX3_isRightBlank_0 4 rfl rfl)
theorem dX3_isRightBlank_5 : decode cX3_isRightBlank 5 = .ok (.if_icmp .le 7, 3) := dk_164 0 7 (dk_at dksX3_isRightBlank_0 5 rfl rfl)
theorem dX3_isRightBlank_8 : decode cX3_isRightBlank 8 = .ok (.iconst 1, 1) := dk_4 (dk_at dksX3_isRightBlank_0 8 rfl rfl)
theorem dX3_isRightBlank_9 : decode cX3_isRightBlank 9 = .ok (.goto 4, 3) := dk_167 0 4 (dk_at dksX3_isRightBlank_0 9 rfl rfl)
theorem dX3_isRightBlank_12 : decode cX3_isRightBlank 12 = .ok (.iconst 0, 1) := dk_3 (dk_at dksX3_isRightBlank_0 12 rfl rfl)
theorem dX3_isRightBlank_13 : decode cX3_isRightBlank 13 = .ok (.istore_n 1, 1) := dk_60 (dk_at dksX3_isRightBlank_0 13 rfl rfl)
theorem dX3_isRightBlank_14 : decode cX3_isRightBlank 14 = .ok (.aload_n 0, 1) := dk_42 (dk_at dksX3_isRightBlank_0 14 rfl rfl)
theorem dX3_isRightBlank_15 : decode cX3_isRightBlank 15 = .ok (.getfield 247, 3) := dk_180 0 247 (dk_at dksX3_isRightBlank_0 15 rfl rfl)
theorem dX3_isRightBlank_18 : decode cX3_isRightBlank 18 = .ok (.iconst 2, 1) := dk_5 (dk_at dksX3_isRightBlank_0 18 rfl rfl)
theorem dX3_isRightBlank_19 : decode cX3_isRightBlank 19 = .ok (.idiv, 1) := dk_108 (dk_at dksX3_isRightBlank_0 19 rfl rfl)
theorem dX3_isRightBlank_20 : decode cX3_isRightBlank 20 = .ok (.istore_n 2, 1) := dk_61 (dk_at dksX3_isRightBlank_0 20 rfl rfl)
theorem dX3_isRightBlank_21 : decode cX3_isRightBlank 21 = .ok (.iload_n 2, 1) := dk_28 (dk_at dksX3_isRightBlank_0 21 rfl rfl)
theorem dX3_isRightBlank_22 : decode cX3_isRightBlank 22 = .ok (.aload_n 0, 1) := dk_42 (dk_at dksX3_isRightBlank_0 22 rfl rfl)
theorem dX3_isRightBlank_23 : decode cX3_isRightBlank 23 = .ok (.getfield 247, 3) := dk_180 0 247 (dk_at dksX3_isRightBlank_1 0 rfl rfl)
theorem dX3_isRightBlank_26 : decode cX3_isRightBlank 26 = .ok (.if_icmp .ge 29, 3) := dk_162 0 29 (dk_at dksX3_isRightBlank_1 3 rfl rfl)
theorem dX3_isRightBlank_29 : decode cX3_isRightBlank 29 = .ok (.iload_n 1, 1) := dk_27 (dk_at dksX3_isRightBlank_1 6 rfl rfl)
theorem dX3_isRightBlank_30 : decode cX3_isRightBlank 30 = .ok (.aload_n 0, 1) := dk_42 (dk_at dksX3_isRightBlank_1 7 rfl rfl)
theorem dX3_isRightBlank_31 : decode cX3_isRightBlank 31 = .ok (.getfield 129, 3) := dk_180 0 129 (dk_at dksX3_isRightBlank_1 8 rfl rfl)
theorem dX3_isRightBlank_34 : decode cX3_isRightBlank 34 = .ok (.iconst 2, 1) := dk_5 (dk_at dksX3_isRightBlank_1 11 rfl rfl)
theorem dX3_isRightBlank_35 : decode cX3_isRightBlank 35 = .ok (.iload_n 2, 1) := dk_28 (dk_at dksX3_isRightBlank_1 12 rfl rfl)
theorem dX3_isRightBlank_36 : decode cX3_isRightBlank 36 = .ok (.imul, 1) := dk_104 (dk_at dksX3_isRightBlank_1 13 rfl rfl)
theorem dX3_isRightBlank_37 : decode cX3_isRightBlank 37 = .ok (.iaload, 1) := dk_46 (dk_at dksX3_isRightBlank_1 14 rfl rfl)
theorem dX3_isRightBlank_38 : decode cX3_isRightBlank 38 = .ok (.iconst (-1), 1) := dk_2 (dk_at dksX3_isRightBlank_1 15 rfl rfl)
theorem dX3_isRightBlank_39 : decode cX3_isRightBlank 39 = .ok (.if_icmp .ne 7, 3) := dk_160 0 7 (dk_at dksX3_isRightBlank_1 16 rfl rfl)
theorem dX3_isRightBlank_42 : decode cX3_isRightBlank 42 = .ok (.iconst 1, 1) := dk_4 (dk_at dksX3_isRightBlank_1 19 rfl rfl)
theorem dX3_isRightBlank_43 : decode cX3_isRightBlank 43 = .ok (.goto 4, 3) := dk_167 0 4 (dk_at dksX3_isRightBlank_1 20 rfl rfl)
theorem dX3_isRightBlank_46 : decode cX3_isRightBlank 46 = .ok (.iconst 0, 1) := dk_3 (dk_at dksX3_isRightBlank_1 23 rfl rfl)
theorem dX3_isRightBlank_47 : decode cX3_isRightBlank 47 = .ok (.iand, 1) := dk_126 (dk_at dksX3_isRightBlank_2 0 rfl rfl)
theorem dX3_isRightBlank_48 : decode cX3_isRightBlank 48 = .ok (.istore_n 1, 1) := dk_60 (dk_at dksX3_isRightBlank_2 1 rfl rfl)
theorem dX3_isRightBlank_49 : decode cX3_isRightBlank 49 = .ok (.iinc 2 1, 3) := dk_132 2 1 (dk_at dksX3_isRightBlank_2 2 rfl rfl)
theorem dX3_isRightBlank_52 : decode cX3_isRightBlank 52 = .ok (.goto (-31), 3) := dk_167 255 225 (dk_at dksX3_isRightBlank_2 5 rfl rfl)
theorem dX3_isRightBlank_55 : decode cX3_isRightBlank 55 = .ok (.iload_n 1, 1) := dk_27 (dk_at dksX3_isRightBlank_2 8 rfl rfl)
theorem dX3_isRightBlank_56 : decode cX3_isRightBlank 56 = .ok (.ireturn, 1) := dk_172 (dk_at dksX3_isRightBlank_2 9 rfl rfl)
abbrev cX3_adds : ByteArray := prog_15_method_48_code
def yX3_adds : MethodName := ⟨RX3, "adds", "(LKeygroveModel$Epoch;)V"⟩
def dkwX3_adds_8 : List UInt8 := [43, 180, 0, 139, 21, 6, 92, 46, 4, 21, 4, 120, 128, 79, 132, 6, 1, 167, 255, 209, 167, 255, 63, 177]
abbrev dktX3_adds_8 : List UInt8 := dkwX3_adds_8 ++ []
def dkwX3_adds_7 : List UInt8 := [162, 0, 44, 21, 6, 21, 4, 184, 0, 153, 153, 0, 28, 43, 180, 0, 129, 21, 6, 46, 2, 159, 0, 17]
abbrev dktX3_adds_7 : List UInt8 := dkwX3_adds_7 ++ dktX3_adds_8
def dkwX3_adds_6 : List UInt8 := [180, 0, 129, 5, 21, 4, 104, 25, 5, 180, 0, 168, 79, 3, 54, 6, 21, 6, 43, 182, 0, 150]
abbrev dktX3_adds_6 : List UInt8 := dkwX3_adds_6 ++ dktX3_adds_7
def dkwX3_adds_5 : List UInt8 := [180, 0, 254, 21, 4, 25, 5, 180, 0, 161, 79, 43, 180, 1, 63, 21, 4, 45, 180, 1, 27, 79, 43]
abbrev dktX3_adds_5 : List UInt8 := dkwX3_adds_5 ++ dktX3_adds_6
def dkwX3_adds_4 : List UInt8 := [180, 0, 19, 45, 180, 1, 27, 182, 0, 69, 192, 0, 159, 58, 5, 25, 5, 4, 181, 1, 37, 43]
abbrev dktX3_adds_4 : List UInt8 := dkwX3_adds_4 ++ dktX3_adds_5
def dkwX3_adds_3 : List UInt8 := [167, 255, 231, 21, 4, 43, 180, 0, 247, 160, 0, 13, 43, 89, 180, 0, 247, 5, 104, 181, 0, 247, 42]
abbrev dktX3_adds_3 : List UInt8 := dkwX3_adds_3 ++ dktX3_adds_4
def dkwX3_adds_2 : List UInt8 := [180, 0, 247, 162, 0, 22, 43, 180, 0, 129, 5, 21, 4, 104, 46, 2, 159, 0, 9, 132, 4, 1]
abbrev dktX3_adds_2 : List UInt8 := dkwX3_adds_2 ++ dktX3_adds_3
def dkwX3_adds_1 : List UInt8 := [192, 1, 21, 78, 45, 180, 1, 23, 16, 97, 159, 0, 6, 167, 255, 228, 3, 54, 4, 21, 4, 43]
abbrev dktX3_adds_1 : List UInt8 := dkwX3_adds_1 ++ dktX3_adds_2
def dkwX3_adds_0 : List UInt8 := [42, 180, 0, 25, 182, 0, 97, 77, 44, 185, 0, 101, 1, 0, 153, 0, 190, 44, 185, 0, 107, 1, 0]
abbrev dktX3_adds_0 : List UInt8 := dkwX3_adds_0 ++ dktX3_adds_1
theorem dksX3_adds_0 : cX3_adds.data.toList.drop 0 = dktX3_adds_0 := by decide +kernel
theorem dksX3_adds_1 : cX3_adds.data.toList.drop 23 = dktX3_adds_1 := dk_seg dksX3_adds_0 23 rfl rfl
theorem dksX3_adds_2 : cX3_adds.data.toList.drop 45 = dktX3_adds_2 := dk_seg dksX3_adds_1 22 rfl rfl
theorem dksX3_adds_3 : cX3_adds.data.toList.drop 67 = dktX3_adds_3 := dk_seg dksX3_adds_2 22 rfl rfl
theorem dksX3_adds_4 : cX3_adds.data.toList.drop 90 = dktX3_adds_4 := dk_seg dksX3_adds_3 23 rfl rfl
theorem dksX3_adds_5 : cX3_adds.data.toList.drop 112 = dktX3_adds_5 := dk_seg dksX3_adds_4 22 rfl rfl
theorem dksX3_adds_6 : cX3_adds.data.toList.drop 135 = dktX3_adds_6 := dk_seg dksX3_adds_5 23 rfl rfl
theorem dksX3_adds_7 : cX3_adds.data.toList.drop 157 = dktX3_adds_7 := dk_seg dksX3_adds_6 22 rfl rfl
theorem dksX3_adds_8 : cX3_adds.data.toList.drop 181 = dktX3_adds_8 := dk_seg dksX3_adds_7 24 rfl rfl
theorem dX3_adds_0 : decode cX3_adds 0 = .ok (.aload_n 0, 1) := dk_42 (dk_at dksX3_adds_0 0 rfl rfl)
theorem dX3_adds_1 : decode cX3_adds 1 = .ok (.getfield 25, 3) := dk_180 0 25 (dk_at dksX3_adds_0 1 rfl rfl)
theorem dX3_adds_4 : decode cX3_adds 4 = .ok (.invokevirtual 97, 3) := dk_182 0 97 (dk_at dksX3_adds_0 4 rfl rfl)
theorem dX3_adds_7 : decode cX3_adds 7 = .ok (.astore_n 2, 1) := dk_77 (dk_at dksX3_adds_0 7 rfl rfl)
theorem dX3_adds_8 : decode cX3_adds 8 = .ok (.aload_n 2, 1) := dk_44 (dk_at dksX3_adds_0 8 rfl rfl)
theorem dX3_adds_9 : decode cX3_adds 9 = .ok (.invokeinterface 101 1, 5) := by decide +kernel
theorem dX3_adds_14 : decode cX3_adds 14 = .ok (.ifCond .eq 190, 3) := dk_153 0 190 (dk_at dksX3_adds_0 14 rfl rfl)
theorem dX3_adds_17 : decode cX3_adds 17 = .ok (.aload_n 2, 1) := dk_44 (dk_at dksX3_adds_0 17 rfl rfl)
theorem dX3_adds_18 : decode cX3_adds 18 = .ok (.invokeinterface 107 1, 5) := by decide +kernel
theorem dX3_adds_23 : decode cX3_adds 23 = .ok (.checkcast 277, 3) := dk_192 1 21 (dk_at dksX3_adds_1 0 rfl rfl)
theorem dX3_adds_26 : decode cX3_adds 26 = .ok (.astore_n 3, 1) := dk_78 (dk_at dksX3_adds_1 3 rfl rfl)
theorem dX3_adds_27 : decode cX3_adds 27 = .ok (.aload_n 3, 1) := dk_45 (dk_at dksX3_adds_1 4 rfl rfl)
theorem dX3_adds_28 : decode cX3_adds 28 = .ok (.getfield 279, 3) := dk_180 1 23 (dk_at dksX3_adds_1 5 rfl rfl)
theorem dX3_adds_31 : decode cX3_adds 31 = .ok (.bipush 97, 2) := dk_16 97 (dk_at dksX3_adds_1 8 rfl rfl)
theorem dX3_adds_33 : decode cX3_adds 33 = .ok (.if_icmp .eq 6, 3) := dk_159 0 6 (dk_at dksX3_adds_1 10 rfl rfl)
theorem dX3_adds_36 : decode cX3_adds 36 = .ok (.goto (-28), 3) := dk_167 255 228 (dk_at dksX3_adds_1 13 rfl rfl)
theorem dX3_adds_39 : decode cX3_adds 39 = .ok (.iconst 0, 1) := dk_3 (dk_at dksX3_adds_1 16 rfl rfl)
theorem dX3_adds_40 : decode cX3_adds 40 = .ok (.istore 4, 2) := dk_54 4 (dk_at dksX3_adds_1 17 rfl rfl)
theorem dX3_adds_42 : decode cX3_adds 42 = .ok (.iload 4, 2) := dk_21 4 (dk_at dksX3_adds_1 19 rfl rfl)
theorem dX3_adds_44 : decode cX3_adds 44 = .ok (.aload_n 1, 1) := dk_43 (dk_at dksX3_adds_1 21 rfl rfl)
theorem dX3_adds_45 : decode cX3_adds 45 = .ok (.getfield 247, 3) := dk_180 0 247 (dk_at dksX3_adds_2 0 rfl rfl)
theorem dX3_adds_48 : decode cX3_adds 48 = .ok (.if_icmp .ge 22, 3) := dk_162 0 22 (dk_at dksX3_adds_2 3 rfl rfl)
theorem dX3_adds_51 : decode cX3_adds 51 = .ok (.aload_n 1, 1) := dk_43 (dk_at dksX3_adds_2 6 rfl rfl)
theorem dX3_adds_52 : decode cX3_adds 52 = .ok (.getfield 129, 3) := dk_180 0 129 (dk_at dksX3_adds_2 7 rfl rfl)
theorem dX3_adds_55 : decode cX3_adds 55 = .ok (.iconst 2, 1) := dk_5 (dk_at dksX3_adds_2 10 rfl rfl)
theorem dX3_adds_56 : decode cX3_adds 56 = .ok (.iload 4, 2) := dk_21 4 (dk_at dksX3_adds_2 11 rfl rfl)
theorem dX3_adds_58 : decode cX3_adds 58 = .ok (.imul, 1) := dk_104 (dk_at dksX3_adds_2 13 rfl rfl)
theorem dX3_adds_59 : decode cX3_adds 59 = .ok (.iaload, 1) := dk_46 (dk_at dksX3_adds_2 14 rfl rfl)
theorem dX3_adds_60 : decode cX3_adds 60 = .ok (.iconst (-1), 1) := dk_2 (dk_at dksX3_adds_2 15 rfl rfl)
theorem dX3_adds_61 : decode cX3_adds 61 = .ok (.if_icmp .eq 9, 3) := dk_159 0 9 (dk_at dksX3_adds_2 16 rfl rfl)
theorem dX3_adds_64 : decode cX3_adds 64 = .ok (.iinc 4 1, 3) := dk_132 4 1 (dk_at dksX3_adds_2 19 rfl rfl)
theorem dX3_adds_67 : decode cX3_adds 67 = .ok (.goto (-25), 3) := dk_167 255 231 (dk_at dksX3_adds_3 0 rfl rfl)
theorem dX3_adds_70 : decode cX3_adds 70 = .ok (.iload 4, 2) := dk_21 4 (dk_at dksX3_adds_3 3 rfl rfl)
theorem dX3_adds_72 : decode cX3_adds 72 = .ok (.aload_n 1, 1) := dk_43 (dk_at dksX3_adds_3 5 rfl rfl)
theorem dX3_adds_73 : decode cX3_adds 73 = .ok (.getfield 247, 3) := dk_180 0 247 (dk_at dksX3_adds_3 6 rfl rfl)
theorem dX3_adds_76 : decode cX3_adds 76 = .ok (.if_icmp .ne 13, 3) := dk_160 0 13 (dk_at dksX3_adds_3 9 rfl rfl)
theorem dX3_adds_79 : decode cX3_adds 79 = .ok (.aload_n 1, 1) := dk_43 (dk_at dksX3_adds_3 12 rfl rfl)
theorem dX3_adds_80 : decode cX3_adds 80 = .ok (.dup, 1) := dk_89 (dk_at dksX3_adds_3 13 rfl rfl)
theorem dX3_adds_81 : decode cX3_adds 81 = .ok (.getfield 247, 3) := dk_180 0 247 (dk_at dksX3_adds_3 14 rfl rfl)
theorem dX3_adds_84 : decode cX3_adds 84 = .ok (.iconst 2, 1) := dk_5 (dk_at dksX3_adds_3 17 rfl rfl)
theorem dX3_adds_85 : decode cX3_adds 85 = .ok (.imul, 1) := dk_104 (dk_at dksX3_adds_3 18 rfl rfl)
theorem dX3_adds_86 : decode cX3_adds 86 = .ok (.putfield 247, 3) := dk_181 0 247 (dk_at dksX3_adds_3 19 rfl rfl)
theorem dX3_adds_89 : decode cX3_adds 89 = .ok (.aload_n 0, 1) := dk_42 (dk_at dksX3_adds_3 22 rfl rfl)
theorem dX3_adds_90 : decode cX3_adds 90 = .ok (.getfield 19, 3) := dk_180 0 19 (dk_at dksX3_adds_4 0 rfl rfl)
theorem dX3_adds_93 : decode cX3_adds 93 = .ok (.aload_n 3, 1) := dk_45 (dk_at dksX3_adds_4 3 rfl rfl)
theorem dX3_adds_94 : decode cX3_adds 94 = .ok (.getfield 283, 3) := dk_180 1 27 (dk_at dksX3_adds_4 4 rfl rfl)
theorem dX3_adds_97 : decode cX3_adds 97 = .ok (.invokevirtual 69, 3) := dk_182 0 69 (dk_at dksX3_adds_4 7 rfl rfl)
theorem dX3_adds_100 : decode cX3_adds 100 = .ok (.checkcast 159, 3) := dk_192 0 159 (dk_at dksX3_adds_4 10 rfl rfl)
theorem dX3_adds_103 : decode cX3_adds 103 = .ok (.astore 5, 2) := dk_58 5 (dk_at dksX3_adds_4 13 rfl rfl)
theorem dX3_adds_105 : decode cX3_adds 105 = .ok (.aload 5, 2) := dk_25 5 (dk_at dksX3_adds_4 15 rfl rfl)
theorem dX3_adds_107 : decode cX3_adds 107 = .ok (.iconst 1, 1) := dk_4 (dk_at dksX3_adds_4 17 rfl rfl)
theorem dX3_adds_108 : decode cX3_adds 108 = .ok (.putfield 293, 3) := dk_181 1 37 (dk_at dksX3_adds_4 18 rfl rfl)
theorem dX3_adds_111 : decode cX3_adds 111 = .ok (.aload_n 1, 1) := dk_43 (dk_at dksX3_adds_4 21 rfl rfl)
theorem dX3_adds_112 : decode cX3_adds 112 = .ok (.getfield 254, 3) := dk_180 0 254 (dk_at dksX3_adds_5 0 rfl rfl)
theorem dX3_adds_115 : decode cX3_adds 115 = .ok (.iload 4, 2) := dk_21 4 (dk_at dksX3_adds_5 3 rfl rfl)
theorem dX3_adds_117 : decode cX3_adds 117 = .ok (.aload 5, 2) := dk_25 5 (dk_at dksX3_adds_5 5 rfl rfl)
theorem dX3_adds_119 : decode cX3_adds 119 = .ok (.getfield 161, 3) := dk_180 0 161 (dk_at dksX3_adds_5 7 rfl rfl)
theorem dX3_adds_122 : decode cX3_adds 122 = .ok (.iastore, 1) := dk_79 (dk_at dksX3_adds_5 10 rfl rfl)
theorem dX3_adds_123 : decode cX3_adds 123 = .ok (.aload_n 1, 1) := dk_43 (dk_at dksX3_adds_5 11 rfl rfl)
theorem dX3_adds_124 : decode cX3_adds 124 = .ok (.getfield 319, 3) := dk_180 1 63 (dk_at dksX3_adds_5 12 rfl rfl)
theorem dX3_adds_127 : decode cX3_adds 127 = .ok (.iload 4, 2) := dk_21 4 (dk_at dksX3_adds_5 15 rfl rfl)
theorem dX3_adds_129 : decode cX3_adds 129 = .ok (.aload_n 3, 1) := dk_45 (dk_at dksX3_adds_5 17 rfl rfl)
theorem dX3_adds_130 : decode cX3_adds 130 = .ok (.getfield 283, 3) := dk_180 1 27 (dk_at dksX3_adds_5 18 rfl rfl)
theorem dX3_adds_133 : decode cX3_adds 133 = .ok (.iastore, 1) := dk_79 (dk_at dksX3_adds_5 21 rfl rfl)
theorem dX3_adds_134 : decode cX3_adds 134 = .ok (.aload_n 1, 1) := dk_43 (dk_at dksX3_adds_5 22 rfl rfl)
theorem dX3_adds_135 : decode cX3_adds 135 = .ok (.getfield 129, 3) := dk_180 0 129 (dk_at dksX3_adds_6 0 rfl rfl)
theorem dX3_adds_138 : decode cX3_adds 138 = .ok (.iconst 2, 1) := dk_5 (dk_at dksX3_adds_6 3 rfl rfl)
theorem dX3_adds_139 : decode cX3_adds 139 = .ok (.iload 4, 2) := dk_21 4 (dk_at dksX3_adds_6 4 rfl rfl)
theorem dX3_adds_141 : decode cX3_adds 141 = .ok (.imul, 1) := dk_104 (dk_at dksX3_adds_6 6 rfl rfl)
theorem dX3_adds_142 : decode cX3_adds 142 = .ok (.aload 5, 2) := dk_25 5 (dk_at dksX3_adds_6 7 rfl rfl)
theorem dX3_adds_144 : decode cX3_adds 144 = .ok (.getfield 168, 3) := dk_180 0 168 (dk_at dksX3_adds_6 9 rfl rfl)
theorem dX3_adds_147 : decode cX3_adds 147 = .ok (.iastore, 1) := dk_79 (dk_at dksX3_adds_6 12 rfl rfl)
theorem dX3_adds_148 : decode cX3_adds 148 = .ok (.iconst 0, 1) := dk_3 (dk_at dksX3_adds_6 13 rfl rfl)
theorem dX3_adds_149 : decode cX3_adds 149 = .ok (.istore 6, 2) := dk_54 6 (dk_at dksX3_adds_6 14 rfl rfl)
theorem dX3_adds_151 : decode cX3_adds 151 = .ok (.iload 6, 2) := dk_21 6 (dk_at dksX3_adds_6 16 rfl rfl)
theorem dX3_adds_153 : decode cX3_adds 153 = .ok (.aload_n 1, 1) := dk_43 (dk_at dksX3_adds_6 18 rfl rfl)
theorem dX3_adds_154 : decode cX3_adds 154 = .ok (.invokevirtual 150, 3) := dk_182 0 150 (dk_at dksX3_adds_6 19 rfl rfl)
theorem dX3_adds_157 : decode cX3_adds 157 = .ok (.if_icmp .ge 44, 3) := dk_162 0 44 (dk_at dksX3_adds_7 0 rfl rfl)
theorem dX3_adds_160 : decode cX3_adds 160 = .ok (.iload 6, 2) := dk_21 6 (dk_at dksX3_adds_7 3 rfl rfl)
theorem dX3_adds_162 : decode cX3_adds 162 = .ok (.iload 4, 2) := dk_21 4 (dk_at dksX3_adds_7 5 rfl rfl)
theorem dX3_adds_164 : decode cX3_adds 164 = .ok (.invokestatic 153, 3) := dk_184 0 153 (dk_at dksX3_adds_7 7 rfl rfl)
theorem dX3_adds_167 : decode cX3_adds 167 = .ok (.ifCond .eq 28, 3) := dk_153 0 28 (dk_at dksX3_adds_7 10 rfl rfl)
theorem dX3_adds_170 : decode cX3_adds 170 = .ok (.aload_n 1, 1) := dk_43 (dk_at dksX3_adds_7 13 rfl rfl)
theorem dX3_adds_171 : decode cX3_adds 171 = .ok (.getfield 129, 3) := dk_180 0 129 (dk_at dksX3_adds_7 14 rfl rfl)
theorem dX3_adds_174 : decode cX3_adds 174 = .ok (.iload 6, 2) := dk_21 6 (dk_at dksX3_adds_7 17 rfl rfl)
theorem dX3_adds_176 : decode cX3_adds 176 = .ok (.iaload, 1) := dk_46 (dk_at dksX3_adds_7 19 rfl rfl)
theorem dX3_adds_177 : decode cX3_adds 177 = .ok (.iconst (-1), 1) := dk_2 (dk_at dksX3_adds_7 20 rfl rfl)
theorem dX3_adds_178 : decode cX3_adds 178 = .ok (.if_icmp .eq 17, 3) := dk_159 0 17 (dk_at dksX3_adds_7 21 rfl rfl)
theorem dX3_adds_181 : decode cX3_adds 181 = .ok (.aload_n 1, 1) := dk_43 (dk_at dksX3_adds_8 0 rfl rfl)
theorem dX3_adds_182 : decode cX3_adds 182 = .ok (.getfield 139, 3) := dk_180 0 139 (dk_at dksX3_adds_8 1 rfl rfl)
theorem dX3_adds_185 : decode cX3_adds 185 = .ok (.iload 6, 2) := dk_21 6 (dk_at dksX3_adds_8 4 rfl rfl)
theorem dX3_adds_187 : decode cX3_adds 187 = .ok (.dup2, 1) := dk_92 (dk_at dksX3_adds_8 6 rfl rfl)
theorem dX3_adds_188 : decode cX3_adds 188 = .ok (.iaload, 1) := dk_46 (dk_at dksX3_adds_8 7 rfl rfl)
theorem dX3_adds_189 : decode cX3_adds 189 = .ok (.iconst 1, 1) := dk_4 (dk_at dksX3_adds_8 8 rfl rfl)
theorem dX3_adds_190 : decode cX3_adds 190 = .ok (.iload 4, 2) := dk_21 4 (dk_at dksX3_adds_8 9 rfl rfl)
theorem dX3_adds_192 : decode cX3_adds 192 = .ok (.ishl, 1) := dk_120 (dk_at dksX3_adds_8 11 rfl rfl)
theorem dX3_adds_193 : decode cX3_adds 193 = .ok (.ior, 1) := dk_128 (dk_at dksX3_adds_8 12 rfl rfl)
theorem dX3_adds_194 : decode cX3_adds 194 = .ok (.iastore, 1) := dk_79 (dk_at dksX3_adds_8 13 rfl rfl)
theorem dX3_adds_195 : decode cX3_adds 195 = .ok (.iinc 6 1, 3) := dk_132 6 1 (dk_at dksX3_adds_8 14 rfl rfl)
theorem dX3_adds_198 : decode cX3_adds 198 = .ok (.goto (-47), 3) := dk_167 255 209 (dk_at dksX3_adds_8 17 rfl rfl)
theorem dX3_adds_201 : decode cX3_adds 201 = .ok (.goto (-193), 3) := dk_167 255 63 (dk_at dksX3_adds_8 20 rfl rfl)
theorem dX3_adds_204 : decode cX3_adds 204 = .ok (.return_, 1) := dk_177 (dk_at dksX3_adds_8 23 rfl rfl)
abbrev cX3_lays : ByteArray := prog_15_method_49_code
def yX3_lays : MethodName := ⟨RX3, "lays", "(LKeygroveModel$Epoch;I)I"⟩
def dkwX3_lays_8 : List UInt8 := [180, 0, 129, 21, 9, 46, 182, 1, 75, 167, 255, 198, 132, 4, 1, 167, 255, 76, 29, 172]
abbrev dktX3_lays_8 : List UInt8 := dkwX3_lays_8 ++ []
def dkwX3_lays_7 : List UInt8 := [21, 9, 184, 0, 126, 157, 0, 16, 43, 180, 1, 63, 21, 9, 5, 108, 46, 2, 160, 0, 15, 42, 29, 43]
abbrev dktX3_lays_7 : List UInt8 := dkwX3_lays_7 ++ dktX3_lays_8
def dkwX3_lays_6 : List UInt8 := [185, 0, 101, 1, 0, 153, 0, 54, 25, 8, 185, 0, 107, 1, 0, 192, 0, 111, 182, 0, 113, 54, 9]
abbrev dktX3_lays_6 : List UInt8 := dkwX3_lays_6 ++ dktX3_lays_7
def dkwX3_lays_5 : List UInt8 := [21, 5, 29, 79, 43, 180, 1, 72, 21, 5, 4, 84, 25, 7, 182, 0, 97, 58, 8, 25, 8]
abbrev dktX3_lays_5 : List UInt8 := dkwX3_lays_5 ++ dktX3_lays_6
def dkwX3_lays_4 : List UInt8 := [25, 7, 182, 0, 250, 153, 0, 6, 167, 0, 95, 42, 29, 2, 5, 182, 0, 87, 62, 43, 180, 0, 129]
abbrev dktX3_lays_4 : List UInt8 := dkwX3_lays_4 ++ dktX3_lays_5
def dkwX3_lays_3 : List UInt8 := [184, 0, 142, 184, 1, 68, 58, 7, 43, 180, 0, 129, 21, 5, 2, 79, 43, 180, 0, 139, 21, 5, 3, 79]
abbrev dktX3_lays_3 : List UInt8 := dkwX3_lays_3 ++ dktX3_lays_4
def dkwX3_lays_2 : List UInt8 := [154, 0, 7, 4, 167, 0, 4, 3, 54, 6, 43, 21, 5, 21, 6, 154, 0, 7, 4, 167, 0, 4, 3]
abbrev dktX3_lays_2 : List UInt8 := dkwX3_lays_2 ++ dktX3_lays_3
def dkwX3_lays_1 : List UInt8 := [180, 0, 247, 163, 0, 175, 28, 21, 4, 184, 1, 65, 54, 5, 28, 21, 4, 4, 100, 122, 4, 126]
abbrev dktX3_lays_1 : List UInt8 := dkwX3_lays_1 ++ dktX3_lays_2
def dkwX3_lays_0 : List UInt8 := [42, 182, 0, 238, 62, 43, 180, 0, 129, 5, 28, 104, 29, 79, 4, 54, 4, 4, 21, 4, 120, 43]
abbrev dktX3_lays_0 : List UInt8 := dkwX3_lays_0 ++ dktX3_lays_1
theorem dksX3_lays_0 : cX3_lays.data.toList.drop 0 = dktX3_lays_0 := by decide +kernel
theorem dksX3_lays_1 : cX3_lays.data.toList.drop 22 = dktX3_lays_1 := dk_seg dksX3_lays_0 22 rfl rfl
theorem dksX3_lays_2 : cX3_lays.data.toList.drop 44 = dktX3_lays_2 := dk_seg dksX3_lays_1 22 rfl rfl
theorem dksX3_lays_3 : cX3_lays.data.toList.drop 67 = dktX3_lays_3 := dk_seg dksX3_lays_2 23 rfl rfl
theorem dksX3_lays_4 : cX3_lays.data.toList.drop 91 = dktX3_lays_4 := dk_seg dksX3_lays_3 24 rfl rfl
theorem dksX3_lays_5 : cX3_lays.data.toList.drop 114 = dktX3_lays_5 := dk_seg dksX3_lays_4 23 rfl rfl
theorem dksX3_lays_6 : cX3_lays.data.toList.drop 135 = dktX3_lays_6 := dk_seg dksX3_lays_5 21 rfl rfl
theorem dksX3_lays_7 : cX3_lays.data.toList.drop 158 = dktX3_lays_7 := dk_seg dksX3_lays_6 23 rfl rfl
theorem dksX3_lays_8 : cX3_lays.data.toList.drop 182 = dktX3_lays_8 := dk_seg dksX3_lays_7 24 rfl rfl
theorem dX3_lays_0 : decode cX3_lays 0 = .ok (.aload_n 0, 1) := dk_42 (dk_at dksX3_lays_0 0 rfl rfl)
theorem dX3_lays_1 : decode cX3_lays 1 = .ok (.invokevirtual 238, 3) := dk_182 0 238 (dk_at dksX3_lays_0 1 rfl rfl)
theorem dX3_lays_4 : decode cX3_lays 4 = .ok (.istore_n 3, 1) := dk_62 (dk_at dksX3_lays_0 4 rfl rfl)
theorem dX3_lays_5 : decode cX3_lays 5 = .ok (.aload_n 1, 1) := dk_43 (dk_at dksX3_lays_0 5 rfl rfl)
theorem dX3_lays_6 : decode cX3_lays 6 = .ok (.getfield 129, 3) := dk_180 0 129 (dk_at dksX3_lays_0 6 rfl rfl)
theorem dX3_lays_9 : decode cX3_lays 9 = .ok (.iconst 2, 1) := dk_5 (dk_at dksX3_lays_0 9 rfl rfl)
theorem dX3_lays_10 : decode cX3_lays 10 = .ok (.iload_n 2, 1) := dk_28 (dk_at dksX3_lays_0 10 rfl rfl)
theorem dX3_lays_11 : decode cX3_lays 11 = .ok (.imul, 1) := dk_104 (dk_at dksX3_lays_0 11 rfl rfl)
theorem dX3_lays_12 : decode cX3_lays 12 = .ok (.iload_n 3, 1) := dk_29 (dk_at dksX3_lays_0 12 rfl rfl)
theorem dX3_lays_13 : decode cX3_lays 13 = .ok (.iastore, 1) := dk_79 (dk_at dksX3_lays_0 13 rfl rfl)
theorem dX3_lays_14 : decode cX3_lays 14 = .ok (.iconst 1, 1) := dk_4 (dk_at dksX3_lays_0 14 rfl rfl)
theorem dX3_lays_15 : decode cX3_lays 15 = .ok (.istore 4, 2) := dk_54 4 (dk_at dksX3_lays_0 15 rfl rfl)
theorem dX3_lays_17 : decode cX3_lays 17 = .ok (.iconst 1, 1) := dk_4 (dk_at dksX3_lays_0 17 rfl rfl)
theorem dX3_lays_18 : decode cX3_lays 18 = .ok (.iload 4, 2) := dk_21 4 (dk_at dksX3_lays_0 18 rfl rfl)
theorem dX3_lays_20 : decode cX3_lays 20 = .ok (.ishl, 1) := dk_120 (dk_at dksX3_lays_0 20 rfl rfl)
theorem dX3_lays_21 : decode cX3_lays 21 = .ok (.aload_n 1, 1) := dk_43 (dk_at dksX3_lays_0 21 rfl rfl)
theorem dX3_lays_22 : decode cX3_lays 22 = .ok (.getfield 247, 3) := dk_180 0 247 (dk_at dksX3_lays_1 0 rfl rfl)
theorem dX3_lays_25 : decode cX3_lays 25 = .ok (.if_icmp .gt 175, 3) := dk_163 0 175 (dk_at dksX3_lays_1 3 rfl rfl)
theorem dX3_lays_28 : decode cX3_lays 28 = .ok (.iload_n 2, 1) := dk_28 (dk_at dksX3_lays_1 6 rfl rfl)
theorem dX3_lays_29 : decode cX3_lays 29 = .ok (.iload 4, 2) := dk_21 4 (dk_at dksX3_lays_1 7 rfl rfl)
theorem dX3_lays_31 : decode cX3_lays 31 = .ok (.invokestatic 321, 3) := dk_184 1 65 (dk_at dksX3_lays_1 9 rfl rfl)
theorem dX3_lays_34 : decode cX3_lays 34 = .ok (.istore 5, 2) := dk_54 5 (dk_at dksX3_lays_1 12 rfl rfl)
theorem dX3_lays_36 : decode cX3_lays 36 = .ok (.iload_n 2, 1) := dk_28 (dk_at dksX3_lays_1 14 rfl rfl)
theorem dX3_lays_37 : decode cX3_lays 37 = .ok (.iload 4, 2) := dk_21 4 (dk_at dksX3_lays_1 15 rfl rfl)
theorem dX3_lays_39 : decode cX3_lays 39 = .ok (.iconst 1, 1) := dk_4 (dk_at dksX3_lays_1 17 rfl rfl)
theorem dX3_lays_40 : decode cX3_lays 40 = .ok (.isub, 1) := dk_100 (dk_at dksX3_lays_1 18 rfl rfl)
theorem dX3_lays_41 : decode cX3_lays 41 = .ok (.ishr, 1) := dk_122 (dk_at dksX3_lays_1 19 rfl rfl)
theorem dX3_lays_42 : decode cX3_lays 42 = .ok (.iconst 1, 1) := dk_4 (dk_at dksX3_lays_1 20 rfl rfl)
theorem dX3_lays_43 : decode cX3_lays 43 = .ok (.iand, 1) := dk_126 (dk_at dksX3_lays_1 21 rfl rfl)
theorem dX3_lays_44 : decode cX3_lays 44 = .ok (.ifCond .ne 7, 3) := dk_154 0 7 (dk_at dksX3_lays_2 0 rfl rfl)
theorem dX3_lays_47 : decode cX3_lays 47 = .ok (.iconst 1, 1) := dk_4 (dk_at dksX3_lays_2 3 rfl rfl)
theorem dX3_lays_48 : decode cX3_lays 48 = .ok (.goto 4, 3) := dk_167 0 4 (dk_at dksX3_lays_2 4 rfl rfl)
theorem dX3_lays_51 : decode cX3_lays 51 = .ok (.iconst 0, 1) := dk_3 (dk_at dksX3_lays_2 7 rfl rfl)
theorem dX3_lays_52 : decode cX3_lays 52 = .ok (.istore 6, 2) := dk_54 6 (dk_at dksX3_lays_2 8 rfl rfl)
theorem dX3_lays_54 : decode cX3_lays 54 = .ok (.aload_n 1, 1) := dk_43 (dk_at dksX3_lays_2 10 rfl rfl)
theorem dX3_lays_55 : decode cX3_lays 55 = .ok (.iload 5, 2) := dk_21 5 (dk_at dksX3_lays_2 11 rfl rfl)
theorem dX3_lays_57 : decode cX3_lays 57 = .ok (.iload 6, 2) := dk_21 6 (dk_at dksX3_lays_2 13 rfl rfl)
theorem dX3_lays_59 : decode cX3_lays 59 = .ok (.ifCond .ne 7, 3) := dk_154 0 7 (dk_at dksX3_lays_2 15 rfl rfl)
theorem dX3_lays_62 : decode cX3_lays 62 = .ok (.iconst 1, 1) := dk_4 (dk_at dksX3_lays_2 18 rfl rfl)
theorem dX3_lays_63 : decode cX3_lays 63 = .ok (.goto 4, 3) := dk_167 0 4 (dk_at dksX3_lays_2 19 rfl rfl)
theorem dX3_lays_66 : decode cX3_lays 66 = .ok (.iconst 0, 1) := dk_3 (dk_at dksX3_lays_2 22 rfl rfl)
theorem dX3_lays_67 : decode cX3_lays 67 = .ok (.invokestatic 142, 3) := dk_184 0 142 (dk_at dksX3_lays_3 0 rfl rfl)
theorem dX3_lays_70 : decode cX3_lays 70 = .ok (.invokestatic 324, 3) := dk_184 1 68 (dk_at dksX3_lays_3 3 rfl rfl)
theorem dX3_lays_73 : decode cX3_lays 73 = .ok (.astore 7, 2) := dk_58 7 (dk_at dksX3_lays_3 6 rfl rfl)
theorem dX3_lays_75 : decode cX3_lays 75 = .ok (.aload_n 1, 1) := dk_43 (dk_at dksX3_lays_3 8 rfl rfl)
theorem dX3_lays_76 : decode cX3_lays 76 = .ok (.getfield 129, 3) := dk_180 0 129 (dk_at dksX3_lays_3 9 rfl rfl)
theorem dX3_lays_79 : decode cX3_lays 79 = .ok (.iload 5, 2) := dk_21 5 (dk_at dksX3_lays_3 12 rfl rfl)
theorem dX3_lays_81 : decode cX3_lays 81 = .ok (.iconst (-1), 1) := dk_2 (dk_at dksX3_lays_3 14 rfl rfl)
theorem dX3_lays_82 : decode cX3_lays 82 = .ok (.iastore, 1) := dk_79 (dk_at dksX3_lays_3 15 rfl rfl)
theorem dX3_lays_83 : decode cX3_lays 83 = .ok (.aload_n 1, 1) := dk_43 (dk_at dksX3_lays_3 16 rfl rfl)
theorem dX3_lays_84 : decode cX3_lays 84 = .ok (.getfield 139, 3) := dk_180 0 139 (dk_at dksX3_lays_3 17 rfl rfl)
theorem dX3_lays_87 : decode cX3_lays 87 = .ok (.iload 5, 2) := dk_21 5 (dk_at dksX3_lays_3 20 rfl rfl)
theorem dX3_lays_89 : decode cX3_lays 89 = .ok (.iconst 0, 1) := dk_3 (dk_at dksX3_lays_3 22 rfl rfl)
theorem dX3_lays_90 : decode cX3_lays 90 = .ok (.iastore, 1) := dk_79 (dk_at dksX3_lays_3 23 rfl rfl)
theorem dX3_lays_91 : decode cX3_lays 91 = .ok (.aload 7, 2) := dk_25 7 (dk_at dksX3_lays_4 0 rfl rfl)
theorem dX3_lays_93 : decode cX3_lays 93 = .ok (.invokevirtual 250, 3) := dk_182 0 250 (dk_at dksX3_lays_4 2 rfl rfl)
theorem dX3_lays_96 : decode cX3_lays 96 = .ok (.ifCond .eq 6, 3) := dk_153 0 6 (dk_at dksX3_lays_4 5 rfl rfl)
theorem dX3_lays_99 : decode cX3_lays 99 = .ok (.goto 95, 3) := dk_167 0 95 (dk_at dksX3_lays_4 8 rfl rfl)
theorem dX3_lays_102 : decode cX3_lays 102 = .ok (.aload_n 0, 1) := dk_42 (dk_at dksX3_lays_4 11 rfl rfl)
theorem dX3_lays_103 : decode cX3_lays 103 = .ok (.iload_n 3, 1) := dk_29 (dk_at dksX3_lays_4 12 rfl rfl)
theorem dX3_lays_104 : decode cX3_lays 104 = .ok (.iconst (-1), 1) := dk_2 (dk_at dksX3_lays_4 13 rfl rfl)
theorem dX3_lays_105 : decode cX3_lays 105 = .ok (.iconst 2, 1) := dk_5 (dk_at dksX3_lays_4 14 rfl rfl)
theorem dX3_lays_106 : decode cX3_lays 106 = .ok (.invokevirtual 87, 3) := dk_182 0 87 (dk_at dksX3_lays_4 15 rfl rfl)
theorem dX3_lays_109 : decode cX3_lays 109 = .ok (.istore_n 3, 1) := dk_62 (dk_at dksX3_lays_4 18 rfl rfl)
theorem dX3_lays_110 : decode cX3_lays 110 = .ok (.aload_n 1, 1) := dk_43 (dk_at dksX3_lays_4 19 rfl rfl)
theorem dX3_lays_111 : decode cX3_lays 111 = .ok (.getfield 129, 3) := dk_180 0 129 (dk_at dksX3_lays_4 20 rfl rfl)
theorem dX3_lays_114 : decode cX3_lays 114 = .ok (.iload 5, 2) := dk_21 5 (dk_at dksX3_lays_5 0 rfl rfl)
theorem dX3_lays_116 : decode cX3_lays 116 = .ok (.iload_n 3, 1) := dk_29 (dk_at dksX3_lays_5 2 rfl rfl)
theorem dX3_lays_117 : decode cX3_lays 117 = .ok (.iastore, 1) := dk_79 (dk_at dksX3_lays_5 3 rfl rfl)
theorem dX3_lays_118 : decode cX3_lays 118 = .ok (.aload_n 1, 1) := dk_43 (dk_at dksX3_lays_5 4 rfl rfl)
theorem dX3_lays_119 : decode cX3_lays 119 = .ok (.getfield 328, 3) := dk_180 1 72 (dk_at dksX3_lays_5 5 rfl rfl)
theorem dX3_lays_122 : decode cX3_lays 122 = .ok (.iload 5, 2) := dk_21 5 (dk_at dksX3_lays_5 8 rfl rfl)
theorem dX3_lays_124 : decode cX3_lays 124 = .ok (.iconst 1, 1) := dk_4 (dk_at dksX3_lays_5 10 rfl rfl)
theorem dX3_lays_125 : decode cX3_lays 125 = .ok (.bastore, 1) := dk_84 (dk_at dksX3_lays_5 11 rfl rfl)
theorem dX3_lays_126 : decode cX3_lays 126 = .ok (.aload 7, 2) := dk_25 7 (dk_at dksX3_lays_5 12 rfl rfl)
theorem dX3_lays_128 : decode cX3_lays 128 = .ok (.invokevirtual 97, 3) := dk_182 0 97 (dk_at dksX3_lays_5 14 rfl rfl)
theorem dX3_lays_131 : decode cX3_lays 131 = .ok (.astore 8, 2) := dk_58 8 (dk_at dksX3_lays_5 17 rfl rfl)
theorem dX3_lays_133 : decode cX3_lays 133 = .ok (.aload 8, 2) := dk_25 8 (dk_at dksX3_lays_5 19 rfl rfl)
theorem dX3_lays_135 : decode cX3_lays 135 = .ok (.invokeinterface 101 1, 5) := by decide +kernel
theorem dX3_lays_140 : decode cX3_lays 140 = .ok (.ifCond .eq 54, 3) := dk_153 0 54 (dk_at dksX3_lays_6 5 rfl rfl)
theorem dX3_lays_143 : decode cX3_lays 143 = .ok (.aload 8, 2) := dk_25 8 (dk_at dksX3_lays_6 8 rfl rfl)
theorem dX3_lays_145 : decode cX3_lays 145 = .ok (.invokeinterface 107 1, 5) := by decide +kernel
theorem dX3_lays_150 : decode cX3_lays 150 = .ok (.checkcast 111, 3) := dk_192 0 111 (dk_at dksX3_lays_6 15 rfl rfl)
theorem dX3_lays_153 : decode cX3_lays 153 = .ok (.invokevirtual 113, 3) := dk_182 0 113 (dk_at dksX3_lays_6 18 rfl rfl)
theorem dX3_lays_156 : decode cX3_lays 156 = .ok (.istore 9, 2) := dk_54 9 (dk_at dksX3_lays_6 21 rfl rfl)
theorem dX3_lays_158 : decode cX3_lays 158 = .ok (.iload 9, 2) := dk_21 9 (dk_at dksX3_lays_7 0 rfl rfl)
theorem dX3_lays_160 : decode cX3_lays 160 = .ok (.invokestatic 126, 3) := dk_184 0 126 (dk_at dksX3_lays_7 2 rfl rfl)
theorem dX3_lays_163 : decode cX3_lays 163 = .ok (.ifCond .gt 16, 3) := dk_157 0 16 (dk_at dksX3_lays_7 5 rfl rfl)
theorem dX3_lays_166 : decode cX3_lays 166 = .ok (.aload_n 1, 1) := dk_43 (dk_at dksX3_lays_7 8 rfl rfl)
theorem dX3_lays_167 : decode cX3_lays 167 = .ok (.getfield 319, 3) := dk_180 1 63 (dk_at dksX3_lays_7 9 rfl rfl)
theorem dX3_lays_170 : decode cX3_lays 170 = .ok (.iload 9, 2) := dk_21 9 (dk_at dksX3_lays_7 12 rfl rfl)
theorem dX3_lays_172 : decode cX3_lays 172 = .ok (.iconst 2, 1) := dk_5 (dk_at dksX3_lays_7 14 rfl rfl)
theorem dX3_lays_173 : decode cX3_lays 173 = .ok (.idiv, 1) := dk_108 (dk_at dksX3_lays_7 15 rfl rfl)
theorem dX3_lays_174 : decode cX3_lays 174 = .ok (.iaload, 1) := dk_46 (dk_at dksX3_lays_7 16 rfl rfl)
theorem dX3_lays_175 : decode cX3_lays 175 = .ok (.iconst (-1), 1) := dk_2 (dk_at dksX3_lays_7 17 rfl rfl)
theorem dX3_lays_176 : decode cX3_lays 176 = .ok (.if_icmp .ne 15, 3) := dk_160 0 15 (dk_at dksX3_lays_7 18 rfl rfl)
theorem dX3_lays_179 : decode cX3_lays 179 = .ok (.aload_n 0, 1) := dk_42 (dk_at dksX3_lays_7 21 rfl rfl)
theorem dX3_lays_180 : decode cX3_lays 180 = .ok (.iload_n 3, 1) := dk_29 (dk_at dksX3_lays_7 22 rfl rfl)
theorem dX3_lays_181 : decode cX3_lays 181 = .ok (.aload_n 1, 1) := dk_43 (dk_at dksX3_lays_7 23 rfl rfl)
theorem dX3_lays_182 : decode cX3_lays 182 = .ok (.getfield 129, 3) := dk_180 0 129 (dk_at dksX3_lays_8 0 rfl rfl)
theorem dX3_lays_185 : decode cX3_lays 185 = .ok (.iload 9, 2) := dk_21 9 (dk_at dksX3_lays_8 3 rfl rfl)
theorem dX3_lays_187 : decode cX3_lays 187 = .ok (.iaload, 1) := dk_46 (dk_at dksX3_lays_8 5 rfl rfl)
theorem dX3_lays_188 : decode cX3_lays 188 = .ok (.invokevirtual 331, 3) := dk_182 1 75 (dk_at dksX3_lays_8 6 rfl rfl)
theorem dX3_lays_191 : decode cX3_lays 191 = .ok (.goto (-58), 3) := dk_167 255 198 (dk_at dksX3_lays_8 9 rfl rfl)
theorem dX3_lays_194 : decode cX3_lays 194 = .ok (.iinc 4 1, 3) := dk_132 4 1 (dk_at dksX3_lays_8 12 rfl rfl)
theorem dX3_lays_197 : decode cX3_lays 197 = .ok (.goto (-180), 3) := dk_167 255 76 (dk_at dksX3_lays_8 15 rfl rfl)
theorem dX3_lays_200 : decode cX3_lays 200 = .ok (.iload_n 3, 1) := dk_29 (dk_at dksX3_lays_8 18 rfl rfl)
theorem dX3_lays_201 : decode cX3_lays 201 = .ok (.ireturn, 1) := dk_172 (dk_at dksX3_lays_8 19 rfl rfl)
abbrev cX3_nodeAbove : ByteArray := prog_15_method_13_code
def yX3_nodeAbove : MethodName := ⟨RX3, "nodeAbove", "(II)I"⟩
def dkwX3_nodeAbove_0 : List UInt8 := [5, 26, 27, 122, 104, 4, 96, 27, 120, 4, 100, 172]
abbrev dktX3_nodeAbove_0 : List UInt8 := dkwX3_nodeAbove_0 ++ []
theorem dksX3_nodeAbove_0 : cX3_nodeAbove.data.toList.drop 0 = dktX3_nodeAbove_0 := by decide +kernel
theorem dX3_nodeAbove_0 : decode cX3_nodeAbove 0 = .ok (.iconst 2, 1) := dk_5 (dk_at dksX3_nodeAbove_0 0 rfl rfl)
theorem dX3_nodeAbove_1 : decode cX3_nodeAbove 1 = .ok (.iload_n 0, 1) := dk_26 (dk_at dksX3_nodeAbove_0 1 rfl rfl)
theorem dX3_nodeAbove_2 : decode cX3_nodeAbove 2 = .ok (.iload_n 1, 1) := dk_27 (dk_at dksX3_nodeAbove_0 2 rfl rfl)
theorem dX3_nodeAbove_3 : decode cX3_nodeAbove 3 = .ok (.ishr, 1) := dk_122 (dk_at dksX3_nodeAbove_0 3 rfl rfl)
theorem dX3_nodeAbove_4 : decode cX3_nodeAbove 4 = .ok (.imul, 1) := dk_104 (dk_at dksX3_nodeAbove_0 4 rfl rfl)
theorem dX3_nodeAbove_5 : decode cX3_nodeAbove 5 = .ok (.iconst 1, 1) := dk_4 (dk_at dksX3_nodeAbove_0 5 rfl rfl)
theorem dX3_nodeAbove_6 : decode cX3_nodeAbove 6 = .ok (.iadd, 1) := dk_96 (dk_at dksX3_nodeAbove_0 6 rfl rfl)
theorem dX3_nodeAbove_7 : decode cX3_nodeAbove 7 = .ok (.iload_n 1, 1) := dk_27 (dk_at dksX3_nodeAbove_0 7 rfl rfl)
theorem dX3_nodeAbove_8 : decode cX3_nodeAbove 8 = .ok (.ishl, 1) := dk_120 (dk_at dksX3_nodeAbove_0 8 rfl rfl)
theorem dX3_nodeAbove_9 : decode cX3_nodeAbove 9 = .ok (.iconst 1, 1) := dk_4 (dk_at dksX3_nodeAbove_0 9 rfl rfl)
theorem dX3_nodeAbove_10 : decode cX3_nodeAbove 10 = .ok (.isub, 1) := dk_100 (dk_at dksX3_nodeAbove_0 10 rfl rfl)
theorem dX3_nodeAbove_11 : decode cX3_nodeAbove 11 = .ok (.ireturn, 1) := dk_172 (dk_at dksX3_nodeAbove_0 11 rfl rfl)
abbrev cX3_child : ByteArray := prog_15_method_14_code
def yX3_child : MethodName := ⟨RX3, "child", "(IZ)I"⟩
def dkwX3_child_0 : List UInt8 := [4, 26, 184, 0, 126, 4, 100, 120, 61, 27, 153, 0, 9, 26, 28, 100, 167, 0, 6, 26, 28, 96, 172]
abbrev dktX3_child_0 : List UInt8 := dkwX3_child_0 ++ []
theorem dksX3_child_0 : cX3_child.data.toList.drop 0 = dktX3_child_0 := by decide +kernel
theorem dX3_child_0 : decode cX3_child 0 = .ok (.iconst 1, 1) := dk_4 (dk_at dksX3_child_0 0 rfl rfl)
theorem dX3_child_1 : decode cX3_child 1 = .ok (.iload_n 0, 1) := dk_26 (dk_at dksX3_child_0 1 rfl rfl)
theorem dX3_child_2 : decode cX3_child 2 = .ok (.invokestatic 126, 3) := dk_184 0 126 (dk_at dksX3_child_0 2 rfl rfl)
theorem dX3_child_5 : decode cX3_child 5 = .ok (.iconst 1, 1) := dk_4 (dk_at dksX3_child_0 5 rfl rfl)
theorem dX3_child_6 : decode cX3_child 6 = .ok (.isub, 1) := dk_100 (dk_at dksX3_child_0 6 rfl rfl)
theorem dX3_child_7 : decode cX3_child 7 = .ok (.ishl, 1) := dk_120 (dk_at dksX3_child_0 7 rfl rfl)
theorem dX3_child_8 : decode cX3_child 8 = .ok (.istore_n 2, 1) := dk_61 (dk_at dksX3_child_0 8 rfl rfl)
theorem dX3_child_9 : decode cX3_child 9 = .ok (.iload_n 1, 1) := dk_27 (dk_at dksX3_child_0 9 rfl rfl)
theorem dX3_child_10 : decode cX3_child 10 = .ok (.ifCond .eq 9, 3) := dk_153 0 9 (dk_at dksX3_child_0 10 rfl rfl)
theorem dX3_child_13 : decode cX3_child 13 = .ok (.iload_n 0, 1) := dk_26 (dk_at dksX3_child_0 13 rfl rfl)
theorem dX3_child_14 : decode cX3_child 14 = .ok (.iload_n 2, 1) := dk_28 (dk_at dksX3_child_0 14 rfl rfl)
theorem dX3_child_15 : decode cX3_child 15 = .ok (.isub, 1) := dk_100 (dk_at dksX3_child_0 15 rfl rfl)
theorem dX3_child_16 : decode cX3_child 16 = .ok (.goto 6, 3) := dk_167 0 6 (dk_at dksX3_child_0 16 rfl rfl)
theorem dX3_child_19 : decode cX3_child 19 = .ok (.iload_n 0, 1) := dk_26 (dk_at dksX3_child_0 19 rfl rfl)
theorem dX3_child_20 : decode cX3_child 20 = .ok (.iload_n 2, 1) := dk_28 (dk_at dksX3_child_0 20 rfl rfl)
theorem dX3_child_21 : decode cX3_child 21 = .ok (.iadd, 1) := dk_96 (dk_at dksX3_child_0 21 rfl rfl)
theorem dX3_child_22 : decode cX3_child 22 = .ok (.ireturn, 1) := dk_172 (dk_at dksX3_child_0 22 rfl rfl)
abbrev cX3_coverOf : ByteArray := prog_15_method_16_code
def yX3_coverOf : MethodName := ⟨RX3, "coverOf", "(LKeygroveModel$Epoch;I)Ljava/util/ArrayList;"⟩
def dkwX3_coverOf_0 : List UInt8 := [187, 0, 7, 89, 183, 0, 9, 77, 42, 27, 44, 184, 0, 146, 44, 176]
abbrev dktX3_coverOf_0 : List UInt8 := dkwX3_coverOf_0 ++ []
theorem dksX3_coverOf_0 : cX3_coverOf.data.toList.drop 0 = dktX3_coverOf_0 := by decide +kernel
theorem dX3_coverOf_0 : decode cX3_coverOf 0 = .ok (.new 7, 3) := dk_187 0 7 (dk_at dksX3_coverOf_0 0 rfl rfl)
theorem dX3_coverOf_3 : decode cX3_coverOf 3 = .ok (.dup, 1) := dk_89 (dk_at dksX3_coverOf_0 3 rfl rfl)
theorem dX3_coverOf_4 : decode cX3_coverOf 4 = .ok (.invokespecial 9, 3) := dk_183 0 9 (dk_at dksX3_coverOf_0 4 rfl rfl)
theorem dX3_coverOf_7 : decode cX3_coverOf 7 = .ok (.astore_n 2, 1) := dk_77 (dk_at dksX3_coverOf_0 7 rfl rfl)
theorem dX3_coverOf_8 : decode cX3_coverOf 8 = .ok (.aload_n 0, 1) := dk_42 (dk_at dksX3_coverOf_0 8 rfl rfl)
theorem dX3_coverOf_9 : decode cX3_coverOf 9 = .ok (.iload_n 1, 1) := dk_27 (dk_at dksX3_coverOf_0 9 rfl rfl)
theorem dX3_coverOf_10 : decode cX3_coverOf 10 = .ok (.aload_n 2, 1) := dk_44 (dk_at dksX3_coverOf_0 10 rfl rfl)
theorem dX3_coverOf_11 : decode cX3_coverOf 11 = .ok (.invokestatic 146, 3) := dk_184 0 146 (dk_at dksX3_coverOf_0 11 rfl rfl)
theorem dX3_coverOf_14 : decode cX3_coverOf 14 = .ok (.aload_n 2, 1) := dk_44 (dk_at dksX3_coverOf_0 14 rfl rfl)
theorem dX3_coverOf_15 : decode cX3_coverOf 15 = .ok (.areturn, 1) := dk_176 (dk_at dksX3_coverOf_0 15 rfl rfl)
abbrev cX3_covers : ByteArray := prog_15_method_15_code
def yX3_covers : MethodName := ⟨RX3, "covers", "(LKeygroveModel$Epoch;ILjava/util/ArrayList;)V"⟩
def dkwX3_covers_3 : List UInt8 := [184, 0, 142, 44, 184, 0, 146, 42, 27, 3, 184, 0, 142, 44, 184, 0, 146, 177]
abbrev dktX3_covers_3 : List UInt8 := dkwX3_covers_3 ++ []
def dkwX3_covers_2 : List UInt8 := [182, 0, 52, 87, 132, 3, 1, 167, 255, 222, 167, 0, 30, 27, 184, 0, 126, 158, 0, 23, 42, 27, 4]
abbrev dktX3_covers_2 : List UInt8 := dkwX3_covers_2 ++ dktX3_covers_3
def dkwX3_covers_1 : List UInt8 := [162, 0, 34, 42, 180, 0, 139, 27, 46, 29, 122, 4, 126, 4, 160, 0, 14, 44, 5, 29, 104, 184, 0, 135]
abbrev dktX3_covers_1 : List UInt8 := dkwX3_covers_1 ++ dktX3_covers_2
def dkwX3_covers_0 : List UInt8 := [42, 180, 0, 129, 27, 46, 2, 159, 0, 54, 44, 27, 184, 0, 135, 182, 0, 52, 87, 3, 62, 29, 16, 16]
abbrev dktX3_covers_0 : List UInt8 := dkwX3_covers_0 ++ dktX3_covers_1
theorem dksX3_covers_0 : cX3_covers.data.toList.drop 0 = dktX3_covers_0 := by decide +kernel
theorem dksX3_covers_1 : cX3_covers.data.toList.drop 24 = dktX3_covers_1 := dk_seg dksX3_covers_0 24 rfl rfl
theorem dksX3_covers_2 : cX3_covers.data.toList.drop 48 = dktX3_covers_2 := dk_seg dksX3_covers_1 24 rfl rfl
theorem dksX3_covers_3 : cX3_covers.data.toList.drop 71 = dktX3_covers_3 := dk_seg dksX3_covers_2 23 rfl rfl
theorem dX3_covers_0 : decode cX3_covers 0 = .ok (.aload_n 0, 1) := dk_42 (dk_at dksX3_covers_0 0 rfl rfl)
theorem dX3_covers_1 : decode cX3_covers 1 = .ok (.getfield 129, 3) := dk_180 0 129 (dk_at dksX3_covers_0 1 rfl rfl)
theorem dX3_covers_4 : decode cX3_covers 4 = .ok (.iload_n 1, 1) := dk_27 (dk_at dksX3_covers_0 4 rfl rfl)
theorem dX3_covers_5 : decode cX3_covers 5 = .ok (.iaload, 1) := dk_46 (dk_at dksX3_covers_0 5 rfl rfl)
theorem dX3_covers_6 : decode cX3_covers 6 = .ok (.iconst (-1), 1) := dk_2 (dk_at dksX3_covers_0 6 rfl rfl)
theorem dX3_covers_7 : decode cX3_covers 7 = .ok (.if_icmp .eq 54, 3) := dk_159 0 54 (dk_at dksX3_covers_0 7 rfl rfl)
theorem dX3_covers_10 : decode cX3_covers 10 = .ok (.aload_n 2, 1) := dk_44 (dk_at dksX3_covers_0 10 rfl rfl)
theorem dX3_covers_11 : decode cX3_covers 11 = .ok (.iload_n 1, 1) := dk_27 (dk_at dksX3_covers_0 11 rfl rfl)
theorem dX3_covers_12 : decode cX3_covers 12 = .ok (.invokestatic 135, 3) := dk_184 0 135 (dk_at dksX3_covers_0 12 rfl rfl)
theorem dX3_covers_15 : decode cX3_covers 15 = .ok (.invokevirtual 52, 3) := dk_182 0 52 (dk_at dksX3_covers_0 15 rfl rfl)
theorem dX3_covers_18 : decode cX3_covers 18 = .ok (.pop, 1) := dk_87 (dk_at dksX3_covers_0 18 rfl rfl)
theorem dX3_covers_19 : decode cX3_covers 19 = .ok (.iconst 0, 1) := dk_3 (dk_at dksX3_covers_0 19 rfl rfl)
theorem dX3_covers_20 : decode cX3_covers 20 = .ok (.istore_n 3, 1) := dk_62 (dk_at dksX3_covers_0 20 rfl rfl)
theorem dX3_covers_21 : decode cX3_covers 21 = .ok (.iload_n 3, 1) := dk_29 (dk_at dksX3_covers_0 21 rfl rfl)
theorem dX3_covers_22 : decode cX3_covers 22 = .ok (.bipush 16, 2) := dk_16 16 (dk_at dksX3_covers_0 22 rfl rfl)
theorem dX3_covers_24 : decode cX3_covers 24 = .ok (.if_icmp .ge 34, 3) := dk_162 0 34 (dk_at dksX3_covers_1 0 rfl rfl)
theorem dX3_covers_27 : decode cX3_covers 27 = .ok (.aload_n 0, 1) := dk_42 (dk_at dksX3_covers_1 3 rfl rfl)
theorem dX3_covers_28 : decode cX3_covers 28 = .ok (.getfield 139, 3) := dk_180 0 139 (dk_at dksX3_covers_1 4 rfl rfl)
theorem dX3_covers_31 : decode cX3_covers 31 = .ok (.iload_n 1, 1) := dk_27 (dk_at dksX3_covers_1 7 rfl rfl)
theorem dX3_covers_32 : decode cX3_covers 32 = .ok (.iaload, 1) := dk_46 (dk_at dksX3_covers_1 8 rfl rfl)
theorem dX3_covers_33 : decode cX3_covers 33 = .ok (.iload_n 3, 1) := dk_29 (dk_at dksX3_covers_1 9 rfl rfl)
theorem dX3_covers_34 : decode cX3_covers 34 = .ok (.ishr, 1) := dk_122 (dk_at dksX3_covers_1 10 rfl rfl)
theorem dX3_covers_35 : decode cX3_covers 35 = .ok (.iconst 1, 1) := dk_4 (dk_at dksX3_covers_1 11 rfl rfl)
theorem dX3_covers_36 : decode cX3_covers 36 = .ok (.iand, 1) := dk_126 (dk_at dksX3_covers_1 12 rfl rfl)
theorem dX3_covers_37 : decode cX3_covers 37 = .ok (.iconst 1, 1) := dk_4 (dk_at dksX3_covers_1 13 rfl rfl)
theorem dX3_covers_38 : decode cX3_covers 38 = .ok (.if_icmp .ne 14, 3) := dk_160 0 14 (dk_at dksX3_covers_1 14 rfl rfl)
theorem dX3_covers_41 : decode cX3_covers 41 = .ok (.aload_n 2, 1) := dk_44 (dk_at dksX3_covers_1 17 rfl rfl)
theorem dX3_covers_42 : decode cX3_covers 42 = .ok (.iconst 2, 1) := dk_5 (dk_at dksX3_covers_1 18 rfl rfl)
theorem dX3_covers_43 : decode cX3_covers 43 = .ok (.iload_n 3, 1) := dk_29 (dk_at dksX3_covers_1 19 rfl rfl)
theorem dX3_covers_44 : decode cX3_covers 44 = .ok (.imul, 1) := dk_104 (dk_at dksX3_covers_1 20 rfl rfl)
theorem dX3_covers_45 : decode cX3_covers 45 = .ok (.invokestatic 135, 3) := dk_184 0 135 (dk_at dksX3_covers_1 21 rfl rfl)
theorem dX3_covers_48 : decode cX3_covers 48 = .ok (.invokevirtual 52, 3) := dk_182 0 52 (dk_at dksX3_covers_2 0 rfl rfl)
theorem dX3_covers_51 : decode cX3_covers 51 = .ok (.pop, 1) := dk_87 (dk_at dksX3_covers_2 3 rfl rfl)
theorem dX3_covers_52 : decode cX3_covers 52 = .ok (.iinc 3 1, 3) := dk_132 3 1 (dk_at dksX3_covers_2 4 rfl rfl)
theorem dX3_covers_55 : decode cX3_covers 55 = .ok (.goto (-34), 3) := dk_167 255 222 (dk_at dksX3_covers_2 7 rfl rfl)
theorem dX3_covers_58 : decode cX3_covers 58 = .ok (.goto 30, 3) := dk_167 0 30 (dk_at dksX3_covers_2 10 rfl rfl)
theorem dX3_covers_61 : decode cX3_covers 61 = .ok (.iload_n 1, 1) := dk_27 (dk_at dksX3_covers_2 13 rfl rfl)
theorem dX3_covers_62 : decode cX3_covers 62 = .ok (.invokestatic 126, 3) := dk_184 0 126 (dk_at dksX3_covers_2 14 rfl rfl)
theorem dX3_covers_65 : decode cX3_covers 65 = .ok (.ifCond .le 23, 3) := dk_158 0 23 (dk_at dksX3_covers_2 17 rfl rfl)
theorem dX3_covers_68 : decode cX3_covers 68 = .ok (.aload_n 0, 1) := dk_42 (dk_at dksX3_covers_2 20 rfl rfl)
theorem dX3_covers_69 : decode cX3_covers 69 = .ok (.iload_n 1, 1) := dk_27 (dk_at dksX3_covers_2 21 rfl rfl)
theorem dX3_covers_70 : decode cX3_covers 70 = .ok (.iconst 1, 1) := dk_4 (dk_at dksX3_covers_2 22 rfl rfl)
theorem dX3_covers_71 : decode cX3_covers 71 = .ok (.invokestatic 142, 3) := dk_184 0 142 (dk_at dksX3_covers_3 0 rfl rfl)
theorem dX3_covers_74 : decode cX3_covers 74 = .ok (.aload_n 2, 1) := dk_44 (dk_at dksX3_covers_3 3 rfl rfl)
theorem dX3_covers_75 : decode cX3_covers 75 = .ok (.invokestatic 146, 3) := dk_184 0 146 (dk_at dksX3_covers_3 4 rfl rfl)
theorem dX3_covers_78 : decode cX3_covers 78 = .ok (.aload_n 0, 1) := dk_42 (dk_at dksX3_covers_3 7 rfl rfl)
theorem dX3_covers_79 : decode cX3_covers 79 = .ok (.iload_n 1, 1) := dk_27 (dk_at dksX3_covers_3 8 rfl rfl)
theorem dX3_covers_80 : decode cX3_covers 80 = .ok (.iconst 0, 1) := dk_3 (dk_at dksX3_covers_3 9 rfl rfl)
theorem dX3_covers_81 : decode cX3_covers 81 = .ok (.invokestatic 142, 3) := dk_184 0 142 (dk_at dksX3_covers_3 10 rfl rfl)
theorem dX3_covers_84 : decode cX3_covers 84 = .ok (.aload_n 2, 1) := dk_44 (dk_at dksX3_covers_3 13 rfl rfl)
theorem dX3_covers_85 : decode cX3_covers 85 = .ok (.invokestatic 146, 3) := dk_184 0 146 (dk_at dksX3_covers_3 14 rfl rfl)
theorem dX3_covers_88 : decode cX3_covers 88 = .ok (.return_, 1) := dk_177 (dk_at dksX3_covers_3 17 rfl rfl)
abbrev cX3_boxed : ByteArray := prog_15_method_9_code
def yX3_boxed : MethodName := ⟨RX3, "boxed", "(II)V"⟩
def dkwX3_boxed_1 : List UInt8 := [89, 180, 0, 94, 4, 96, 181, 0, 94, 177]
abbrev dktX3_boxed_1 : List UInt8 := dkwX3_boxed_1 ++ []
def dkwX3_boxed_0 : List UInt8 := [42, 180, 0, 16, 187, 0, 85, 89, 42, 28, 2, 4, 182, 0, 87, 27, 183, 0, 91, 182, 0, 52, 87, 42]
abbrev dktX3_boxed_0 : List UInt8 := dkwX3_boxed_0 ++ dktX3_boxed_1
theorem dksX3_boxed_0 : cX3_boxed.data.toList.drop 0 = dktX3_boxed_0 := by decide +kernel
theorem dksX3_boxed_1 : cX3_boxed.data.toList.drop 24 = dktX3_boxed_1 := dk_seg dksX3_boxed_0 24 rfl rfl
theorem dX3_boxed_0 : decode cX3_boxed 0 = .ok (.aload_n 0, 1) := dk_42 (dk_at dksX3_boxed_0 0 rfl rfl)
theorem dX3_boxed_1 : decode cX3_boxed 1 = .ok (.getfield 16, 3) := dk_180 0 16 (dk_at dksX3_boxed_0 1 rfl rfl)
theorem dX3_boxed_4 : decode cX3_boxed 4 = .ok (.new 85, 3) := dk_187 0 85 (dk_at dksX3_boxed_0 4 rfl rfl)
theorem dX3_boxed_7 : decode cX3_boxed 7 = .ok (.dup, 1) := dk_89 (dk_at dksX3_boxed_0 7 rfl rfl)
theorem dX3_boxed_8 : decode cX3_boxed 8 = .ok (.aload_n 0, 1) := dk_42 (dk_at dksX3_boxed_0 8 rfl rfl)
theorem dX3_boxed_9 : decode cX3_boxed 9 = .ok (.iload_n 2, 1) := dk_28 (dk_at dksX3_boxed_0 9 rfl rfl)
theorem dX3_boxed_10 : decode cX3_boxed 10 = .ok (.iconst (-1), 1) := dk_2 (dk_at dksX3_boxed_0 10 rfl rfl)
theorem dX3_boxed_11 : decode cX3_boxed 11 = .ok (.iconst 1, 1) := dk_4 (dk_at dksX3_boxed_0 11 rfl rfl)
theorem dX3_boxed_12 : decode cX3_boxed 12 = .ok (.invokevirtual 87, 3) := dk_182 0 87 (dk_at dksX3_boxed_0 12 rfl rfl)
theorem dX3_boxed_15 : decode cX3_boxed 15 = .ok (.iload_n 1, 1) := dk_27 (dk_at dksX3_boxed_0 15 rfl rfl)
theorem dX3_boxed_16 : decode cX3_boxed 16 = .ok (.invokespecial 91, 3) := dk_183 0 91 (dk_at dksX3_boxed_0 16 rfl rfl)
theorem dX3_boxed_19 : decode cX3_boxed 19 = .ok (.invokevirtual 52, 3) := dk_182 0 52 (dk_at dksX3_boxed_0 19 rfl rfl)
theorem dX3_boxed_22 : decode cX3_boxed 22 = .ok (.pop, 1) := dk_87 (dk_at dksX3_boxed_0 22 rfl rfl)
theorem dX3_boxed_23 : decode cX3_boxed 23 = .ok (.aload_n 0, 1) := dk_42 (dk_at dksX3_boxed_0 23 rfl rfl)
theorem dX3_boxed_24 : decode cX3_boxed 24 = .ok (.dup, 1) := dk_89 (dk_at dksX3_boxed_1 0 rfl rfl)
theorem dX3_boxed_25 : decode cX3_boxed 25 = .ok (.getfield 94, 3) := dk_180 0 94 (dk_at dksX3_boxed_1 1 rfl rfl)
theorem dX3_boxed_28 : decode cX3_boxed 28 = .ok (.iconst 1, 1) := dk_4 (dk_at dksX3_boxed_1 4 rfl rfl)
theorem dX3_boxed_29 : decode cX3_boxed 29 = .ok (.iadd, 1) := dk_96 (dk_at dksX3_boxed_1 5 rfl rfl)
theorem dX3_boxed_30 : decode cX3_boxed 30 = .ok (.putfield 94, 3) := dk_181 0 94 (dk_at dksX3_boxed_1 6 rfl rfl)
theorem dX3_boxed_33 : decode cX3_boxed 33 = .ok (.return_, 1) := dk_177 (dk_at dksX3_boxed_1 9 rfl rfl)
abbrev cX3_lowest : ByteArray := prog_15_method_51_code
def yX3_lowest : MethodName := ⟨RX3, "lowest", "(LKeygroveModel$Epoch;I)I"⟩
def dkwX3_lowest_1 : List UInt8 := [184, 1, 65, 172]
abbrev dktX3_lowest_1 : List UInt8 := dkwX3_lowest_1 ++ []
def dkwX3_lowest_0 : List UInt8 := [4, 61, 42, 180, 1, 72, 27, 28, 184, 1, 65, 51, 154, 0, 9, 132, 2, 1, 167, 255, 240, 27, 28]
abbrev dktX3_lowest_0 : List UInt8 := dkwX3_lowest_0 ++ dktX3_lowest_1
theorem dksX3_lowest_0 : cX3_lowest.data.toList.drop 0 = dktX3_lowest_0 := by decide +kernel
theorem dksX3_lowest_1 : cX3_lowest.data.toList.drop 23 = dktX3_lowest_1 := dk_seg dksX3_lowest_0 23 rfl rfl
theorem dX3_lowest_0 : decode cX3_lowest 0 = .ok (.iconst 1, 1) := dk_4 (dk_at dksX3_lowest_0 0 rfl rfl)
theorem dX3_lowest_1 : decode cX3_lowest 1 = .ok (.istore_n 2, 1) := dk_61 (dk_at dksX3_lowest_0 1 rfl rfl)
theorem dX3_lowest_2 : decode cX3_lowest 2 = .ok (.aload_n 0, 1) := dk_42 (dk_at dksX3_lowest_0 2 rfl rfl)
theorem dX3_lowest_3 : decode cX3_lowest 3 = .ok (.getfield 328, 3) := dk_180 1 72 (dk_at dksX3_lowest_0 3 rfl rfl)
theorem dX3_lowest_6 : decode cX3_lowest 6 = .ok (.iload_n 1, 1) := dk_27 (dk_at dksX3_lowest_0 6 rfl rfl)
theorem dX3_lowest_7 : decode cX3_lowest 7 = .ok (.iload_n 2, 1) := dk_28 (dk_at dksX3_lowest_0 7 rfl rfl)
theorem dX3_lowest_8 : decode cX3_lowest 8 = .ok (.invokestatic 321, 3) := dk_184 1 65 (dk_at dksX3_lowest_0 8 rfl rfl)
theorem dX3_lowest_11 : decode cX3_lowest 11 = .ok (.baload, 1) := dk_51 (dk_at dksX3_lowest_0 11 rfl rfl)
theorem dX3_lowest_12 : decode cX3_lowest 12 = .ok (.ifCond .ne 9, 3) := dk_154 0 9 (dk_at dksX3_lowest_0 12 rfl rfl)
theorem dX3_lowest_15 : decode cX3_lowest 15 = .ok (.iinc 2 1, 3) := dk_132 2 1 (dk_at dksX3_lowest_0 15 rfl rfl)
theorem dX3_lowest_18 : decode cX3_lowest 18 = .ok (.goto (-16), 3) := dk_167 255 240 (dk_at dksX3_lowest_0 18 rfl rfl)
theorem dX3_lowest_21 : decode cX3_lowest 21 = .ok (.iload_n 1, 1) := dk_27 (dk_at dksX3_lowest_0 21 rfl rfl)
theorem dX3_lowest_22 : decode cX3_lowest 22 = .ok (.iload_n 2, 1) := dk_28 (dk_at dksX3_lowest_0 22 rfl rfl)
theorem dX3_lowest_23 : decode cX3_lowest 23 = .ok (.invokestatic 321, 3) := dk_184 1 65 (dk_at dksX3_lowest_1 0 rfl rfl)
theorem dX3_lowest_26 : decode cX3_lowest 26 = .ok (.ireturn, 1) := dk_172 (dk_at dksX3_lowest_1 3 rfl rfl)
abbrev cX3_gets : ByteArray := prog_15_method_52_code
def yX3_gets : MethodName := ⟨RX3, "gets", "(LKeygroveModel$Person;LKeygroveModel$Epoch;I)V"⟩
def dkwX3_gets_5 : List UInt8 := [180, 0, 187, 29, 46, 167, 0, 4, 2, 79, 132, 3, 1, 167, 255, 129, 177]
abbrev dktX3_gets_5 : List UInt8 := dkwX3_gets_5 ++ []
def dkwX3_gets_4 : List UInt8 := [180, 0, 187, 29, 21, 4, 153, 0, 12, 43, 180, 0, 129, 29, 46, 167, 0, 18, 21, 5, 153, 0, 12, 42]
abbrev dktX3_gets_4 : List UInt8 := dkwX3_gets_4 ++ dktX3_gets_5
def dkwX3_gets_3 : List UInt8 := [180, 0, 187, 29, 46, 43, 180, 0, 129, 29, 46, 160, 0, 7, 4, 167, 0, 4, 3, 54, 5, 42]
abbrev dktX3_gets_3 : List UInt8 := dkwX3_gets_3 ++ dktX3_gets_4
def dkwX3_gets_2 : List UInt8 := [3, 54, 4, 29, 43, 182, 0, 150, 162, 0, 32, 43, 180, 0, 129, 29, 46, 2, 159, 0, 22, 42]
abbrev dktX3_gets_2 : List UInt8 := dkwX3_gets_2 ++ dktX3_gets_3
def dkwX3_gets_1 : List UInt8 := [153, 0, 24, 43, 180, 1, 72, 29, 51, 153, 0, 15, 29, 184, 0, 126, 28, 161, 0, 7, 4, 167, 0, 4]
abbrev dktX3_gets_1 : List UInt8 := dkwX3_gets_1 ++ dktX3_gets_2
def dkwX3_gets_0 : List UInt8 := [3, 62, 29, 16, 31, 162, 0, 127, 29, 43, 182, 0, 150, 162, 0, 35, 29, 42, 180, 1, 4, 184, 0, 153]
abbrev dktX3_gets_0 : List UInt8 := dkwX3_gets_0 ++ dktX3_gets_1
theorem dksX3_gets_0 : cX3_gets.data.toList.drop 0 = dktX3_gets_0 := by decide +kernel
theorem dksX3_gets_1 : cX3_gets.data.toList.drop 24 = dktX3_gets_1 := dk_seg dksX3_gets_0 24 rfl rfl
theorem dksX3_gets_2 : cX3_gets.data.toList.drop 48 = dktX3_gets_2 := dk_seg dksX3_gets_1 24 rfl rfl
theorem dksX3_gets_3 : cX3_gets.data.toList.drop 70 = dktX3_gets_3 := dk_seg dksX3_gets_2 22 rfl rfl
theorem dksX3_gets_4 : cX3_gets.data.toList.drop 92 = dktX3_gets_4 := dk_seg dksX3_gets_3 22 rfl rfl
theorem dksX3_gets_5 : cX3_gets.data.toList.drop 116 = dktX3_gets_5 := dk_seg dksX3_gets_4 24 rfl rfl
theorem dX3_gets_0 : decode cX3_gets 0 = .ok (.iconst 0, 1) := dk_3 (dk_at dksX3_gets_0 0 rfl rfl)
theorem dX3_gets_1 : decode cX3_gets 1 = .ok (.istore_n 3, 1) := dk_62 (dk_at dksX3_gets_0 1 rfl rfl)
theorem dX3_gets_2 : decode cX3_gets 2 = .ok (.iload_n 3, 1) := dk_29 (dk_at dksX3_gets_0 2 rfl rfl)
theorem dX3_gets_3 : decode cX3_gets 3 = .ok (.bipush 31, 2) := dk_16 31 (dk_at dksX3_gets_0 3 rfl rfl)
theorem dX3_gets_5 : decode cX3_gets 5 = .ok (.if_icmp .ge 127, 3) := dk_162 0 127 (dk_at dksX3_gets_0 5 rfl rfl)
theorem dX3_gets_8 : decode cX3_gets 8 = .ok (.iload_n 3, 1) := dk_29 (dk_at dksX3_gets_0 8 rfl rfl)
theorem dX3_gets_9 : decode cX3_gets 9 = .ok (.aload_n 1, 1) := dk_43 (dk_at dksX3_gets_0 9 rfl rfl)
theorem dX3_gets_10 : decode cX3_gets 10 = .ok (.invokevirtual 150, 3) := dk_182 0 150 (dk_at dksX3_gets_0 10 rfl rfl)
theorem dX3_gets_13 : decode cX3_gets 13 = .ok (.if_icmp .ge 35, 3) := dk_162 0 35 (dk_at dksX3_gets_0 13 rfl rfl)
theorem dX3_gets_16 : decode cX3_gets 16 = .ok (.iload_n 3, 1) := dk_29 (dk_at dksX3_gets_0 16 rfl rfl)
theorem dX3_gets_17 : decode cX3_gets 17 = .ok (.aload_n 0, 1) := dk_42 (dk_at dksX3_gets_0 17 rfl rfl)
theorem dX3_gets_18 : decode cX3_gets 18 = .ok (.getfield 260, 3) := dk_180 1 4 (dk_at dksX3_gets_0 18 rfl rfl)
theorem dX3_gets_21 : decode cX3_gets 21 = .ok (.invokestatic 153, 3) := dk_184 0 153 (dk_at dksX3_gets_0 21 rfl rfl)
theorem dX3_gets_24 : decode cX3_gets 24 = .ok (.ifCond .eq 24, 3) := dk_153 0 24 (dk_at dksX3_gets_1 0 rfl rfl)
theorem dX3_gets_27 : decode cX3_gets 27 = .ok (.aload_n 1, 1) := dk_43 (dk_at dksX3_gets_1 3 rfl rfl)
theorem dX3_gets_28 : decode cX3_gets 28 = .ok (.getfield 328, 3) := dk_180 1 72 (dk_at dksX3_gets_1 4 rfl rfl)
theorem dX3_gets_31 : decode cX3_gets 31 = .ok (.iload_n 3, 1) := dk_29 (dk_at dksX3_gets_1 7 rfl rfl)
theorem dX3_gets_32 : decode cX3_gets 32 = .ok (.baload, 1) := dk_51 (dk_at dksX3_gets_1 8 rfl rfl)
theorem dX3_gets_33 : decode cX3_gets 33 = .ok (.ifCond .eq 15, 3) := dk_153 0 15 (dk_at dksX3_gets_1 9 rfl rfl)
theorem dX3_gets_36 : decode cX3_gets 36 = .ok (.iload_n 3, 1) := dk_29 (dk_at dksX3_gets_1 12 rfl rfl)
theorem dX3_gets_37 : decode cX3_gets 37 = .ok (.invokestatic 126, 3) := dk_184 0 126 (dk_at dksX3_gets_1 13 rfl rfl)
theorem dX3_gets_40 : decode cX3_gets 40 = .ok (.iload_n 2, 1) := dk_28 (dk_at dksX3_gets_1 16 rfl rfl)
theorem dX3_gets_41 : decode cX3_gets 41 = .ok (.if_icmp .lt 7, 3) := dk_161 0 7 (dk_at dksX3_gets_1 17 rfl rfl)
theorem dX3_gets_44 : decode cX3_gets 44 = .ok (.iconst 1, 1) := dk_4 (dk_at dksX3_gets_1 20 rfl rfl)
theorem dX3_gets_45 : decode cX3_gets 45 = .ok (.goto 4, 3) := dk_167 0 4 (dk_at dksX3_gets_1 21 rfl rfl)
theorem dX3_gets_48 : decode cX3_gets 48 = .ok (.iconst 0, 1) := dk_3 (dk_at dksX3_gets_2 0 rfl rfl)
theorem dX3_gets_49 : decode cX3_gets 49 = .ok (.istore 4, 2) := dk_54 4 (dk_at dksX3_gets_2 1 rfl rfl)
theorem dX3_gets_51 : decode cX3_gets 51 = .ok (.iload_n 3, 1) := dk_29 (dk_at dksX3_gets_2 3 rfl rfl)
theorem dX3_gets_52 : decode cX3_gets 52 = .ok (.aload_n 1, 1) := dk_43 (dk_at dksX3_gets_2 4 rfl rfl)
theorem dX3_gets_53 : decode cX3_gets 53 = .ok (.invokevirtual 150, 3) := dk_182 0 150 (dk_at dksX3_gets_2 5 rfl rfl)
theorem dX3_gets_56 : decode cX3_gets 56 = .ok (.if_icmp .ge 32, 3) := dk_162 0 32 (dk_at dksX3_gets_2 8 rfl rfl)
theorem dX3_gets_59 : decode cX3_gets 59 = .ok (.aload_n 1, 1) := dk_43 (dk_at dksX3_gets_2 11 rfl rfl)
theorem dX3_gets_60 : decode cX3_gets 60 = .ok (.getfield 129, 3) := dk_180 0 129 (dk_at dksX3_gets_2 12 rfl rfl)
theorem dX3_gets_63 : decode cX3_gets 63 = .ok (.iload_n 3, 1) := dk_29 (dk_at dksX3_gets_2 15 rfl rfl)
theorem dX3_gets_64 : decode cX3_gets 64 = .ok (.iaload, 1) := dk_46 (dk_at dksX3_gets_2 16 rfl rfl)
theorem dX3_gets_65 : decode cX3_gets 65 = .ok (.iconst (-1), 1) := dk_2 (dk_at dksX3_gets_2 17 rfl rfl)
theorem dX3_gets_66 : decode cX3_gets 66 = .ok (.if_icmp .eq 22, 3) := dk_159 0 22 (dk_at dksX3_gets_2 18 rfl rfl)
theorem dX3_gets_69 : decode cX3_gets 69 = .ok (.aload_n 0, 1) := dk_42 (dk_at dksX3_gets_2 21 rfl rfl)
theorem dX3_gets_70 : decode cX3_gets 70 = .ok (.getfield 187, 3) := dk_180 0 187 (dk_at dksX3_gets_3 0 rfl rfl)
theorem dX3_gets_73 : decode cX3_gets 73 = .ok (.iload_n 3, 1) := dk_29 (dk_at dksX3_gets_3 3 rfl rfl)
theorem dX3_gets_74 : decode cX3_gets 74 = .ok (.iaload, 1) := dk_46 (dk_at dksX3_gets_3 4 rfl rfl)
theorem dX3_gets_75 : decode cX3_gets 75 = .ok (.aload_n 1, 1) := dk_43 (dk_at dksX3_gets_3 5 rfl rfl)
theorem dX3_gets_76 : decode cX3_gets 76 = .ok (.getfield 129, 3) := dk_180 0 129 (dk_at dksX3_gets_3 6 rfl rfl)
theorem dX3_gets_79 : decode cX3_gets 79 = .ok (.iload_n 3, 1) := dk_29 (dk_at dksX3_gets_3 9 rfl rfl)
theorem dX3_gets_80 : decode cX3_gets 80 = .ok (.iaload, 1) := dk_46 (dk_at dksX3_gets_3 10 rfl rfl)
theorem dX3_gets_81 : decode cX3_gets 81 = .ok (.if_icmp .ne 7, 3) := dk_160 0 7 (dk_at dksX3_gets_3 11 rfl rfl)
theorem dX3_gets_84 : decode cX3_gets 84 = .ok (.iconst 1, 1) := dk_4 (dk_at dksX3_gets_3 14 rfl rfl)
theorem dX3_gets_85 : decode cX3_gets 85 = .ok (.goto 4, 3) := dk_167 0 4 (dk_at dksX3_gets_3 15 rfl rfl)
theorem dX3_gets_88 : decode cX3_gets 88 = .ok (.iconst 0, 1) := dk_3 (dk_at dksX3_gets_3 18 rfl rfl)
theorem dX3_gets_89 : decode cX3_gets 89 = .ok (.istore 5, 2) := dk_54 5 (dk_at dksX3_gets_3 19 rfl rfl)
theorem dX3_gets_91 : decode cX3_gets 91 = .ok (.aload_n 0, 1) := dk_42 (dk_at dksX3_gets_3 21 rfl rfl)
theorem dX3_gets_92 : decode cX3_gets 92 = .ok (.getfield 187, 3) := dk_180 0 187 (dk_at dksX3_gets_4 0 rfl rfl)
theorem dX3_gets_95 : decode cX3_gets 95 = .ok (.iload_n 3, 1) := dk_29 (dk_at dksX3_gets_4 3 rfl rfl)
theorem dX3_gets_96 : decode cX3_gets 96 = .ok (.iload 4, 2) := dk_21 4 (dk_at dksX3_gets_4 4 rfl rfl)
theorem dX3_gets_98 : decode cX3_gets 98 = .ok (.ifCond .eq 12, 3) := dk_153 0 12 (dk_at dksX3_gets_4 6 rfl rfl)
theorem dX3_gets_101 : decode cX3_gets 101 = .ok (.aload_n 1, 1) := dk_43 (dk_at dksX3_gets_4 9 rfl rfl)
theorem dX3_gets_102 : decode cX3_gets 102 = .ok (.getfield 129, 3) := dk_180 0 129 (dk_at dksX3_gets_4 10 rfl rfl)
theorem dX3_gets_105 : decode cX3_gets 105 = .ok (.iload_n 3, 1) := dk_29 (dk_at dksX3_gets_4 13 rfl rfl)
theorem dX3_gets_106 : decode cX3_gets 106 = .ok (.iaload, 1) := dk_46 (dk_at dksX3_gets_4 14 rfl rfl)
theorem dX3_gets_107 : decode cX3_gets 107 = .ok (.goto 18, 3) := dk_167 0 18 (dk_at dksX3_gets_4 15 rfl rfl)
theorem dX3_gets_110 : decode cX3_gets 110 = .ok (.iload 5, 2) := dk_21 5 (dk_at dksX3_gets_4 18 rfl rfl)
theorem dX3_gets_112 : decode cX3_gets 112 = .ok (.ifCond .eq 12, 3) := dk_153 0 12 (dk_at dksX3_gets_4 20 rfl rfl)
theorem dX3_gets_115 : decode cX3_gets 115 = .ok (.aload_n 0, 1) := dk_42 (dk_at dksX3_gets_4 23 rfl rfl)
theorem dX3_gets_116 : decode cX3_gets 116 = .ok (.getfield 187, 3) := dk_180 0 187 (dk_at dksX3_gets_5 0 rfl rfl)
theorem dX3_gets_119 : decode cX3_gets 119 = .ok (.iload_n 3, 1) := dk_29 (dk_at dksX3_gets_5 3 rfl rfl)
theorem dX3_gets_120 : decode cX3_gets 120 = .ok (.iaload, 1) := dk_46 (dk_at dksX3_gets_5 4 rfl rfl)
theorem dX3_gets_121 : decode cX3_gets 121 = .ok (.goto 4, 3) := dk_167 0 4 (dk_at dksX3_gets_5 5 rfl rfl)
theorem dX3_gets_124 : decode cX3_gets 124 = .ok (.iconst (-1), 1) := dk_2 (dk_at dksX3_gets_5 8 rfl rfl)
theorem dX3_gets_125 : decode cX3_gets 125 = .ok (.iastore, 1) := dk_79 (dk_at dksX3_gets_5 9 rfl rfl)
theorem dX3_gets_126 : decode cX3_gets 126 = .ok (.iinc 3 1, 3) := dk_132 3 1 (dk_at dksX3_gets_5 10 rfl rfl)
theorem dX3_gets_129 : decode cX3_gets 129 = .ok (.goto (-127), 3) := dk_167 255 129 (dk_at dksX3_gets_5 13 rfl rfl)
theorem dX3_gets_132 : decode cX3_gets 132 = .ok (.return_, 1) := dk_177 (dk_at dksX3_gets_5 16 rfl rfl)
abbrev cX3_goOn : ByteArray := prog_15_method_53_code
def yX3_goOn : MethodName := ⟨RX3, "goOn", "(I)C"⟩
def dkwX3_goOn_7 : List UInt8 := [172]
abbrev dktX3_goOn_7 : List UInt8 := dkwX3_goOn_7 ++ []
def dkwX3_goOn_6 : List UInt8 := [180, 1, 4, 184, 1, 91, 184, 0, 126, 184, 1, 100, 42, 44, 45, 182, 1, 7, 42, 182, 0, 244, 16, 109]
abbrev dktX3_goOn_6 : List UInt8 := dkwX3_goOn_6 ++ dktX3_goOn_7
def dkwX3_goOn_5 : List UInt8 := [159, 0, 18, 44, 45, 180, 0, 129, 5, 44, 180, 1, 4, 104, 46, 181, 0, 181, 44, 45, 45, 44]
abbrev dktX3_goOn_5 : List UInt8 := dkwX3_goOn_5 ++ dktX3_goOn_6
def dkwX3_goOn_4 : List UInt8 := [42, 44, 182, 0, 234, 16, 111, 172, 45, 180, 0, 129, 5, 44, 180, 1, 4, 104, 46, 44, 180, 0, 181]
abbrev dktX3_goOn_4 : List UInt8 := dkwX3_goOn_4 ++ dktX3_goOn_5
def dkwX3_goOn_3 : List UInt8 := [180, 0, 178, 4, 96, 182, 0, 69, 192, 0, 130, 78, 45, 180, 1, 52, 44, 180, 1, 4, 51, 153, 0, 11]
abbrev dktX3_goOn_3 : List UInt8 := dkwX3_goOn_3 ++ dktX3_goOn_4
def dkwX3_goOn_2 : List UInt8 := [153, 0, 5, 3, 172, 42, 180, 0, 22, 27, 182, 0, 69, 192, 0, 157, 77, 42, 180, 0, 28, 44]
abbrev dktX3_goOn_2 : List UInt8 := dkwX3_goOn_2 ++ dktX3_goOn_3
def dkwX3_goOn_1 : List UInt8 := [180, 0, 178, 2, 159, 0, 11, 42, 27, 182, 1, 34, 153, 0, 7, 5, 167, 0, 4, 3, 182, 0, 230]
abbrev dktX3_goOn_1 : List UInt8 := dkwX3_goOn_1 ++ dktX3_goOn_2
def dkwX3_goOn_0 : List UInt8 := [42, 42, 27, 182, 0, 226, 154, 0, 7, 4, 167, 0, 34, 42, 180, 0, 22, 27, 182, 0, 69, 192, 0, 157]
abbrev dktX3_goOn_0 : List UInt8 := dkwX3_goOn_0 ++ dktX3_goOn_1
theorem dksX3_goOn_0 : cX3_goOn.data.toList.drop 0 = dktX3_goOn_0 := by decide +kernel
theorem dksX3_goOn_1 : cX3_goOn.data.toList.drop 24 = dktX3_goOn_1 := dk_seg dksX3_goOn_0 24 rfl rfl
theorem dksX3_goOn_2 : cX3_goOn.data.toList.drop 47 = dktX3_goOn_2 := dk_seg dksX3_goOn_1 23 rfl rfl
theorem dksX3_goOn_3 : cX3_goOn.data.toList.drop 69 = dktX3_goOn_3 := dk_seg dksX3_goOn_2 22 rfl rfl
theorem dksX3_goOn_4 : cX3_goOn.data.toList.drop 93 = dktX3_goOn_4 := dk_seg dksX3_goOn_3 24 rfl rfl
theorem dksX3_goOn_5 : cX3_goOn.data.toList.drop 116 = dktX3_goOn_5 := dk_seg dksX3_goOn_4 23 rfl rfl
theorem dksX3_goOn_6 : cX3_goOn.data.toList.drop 138 = dktX3_goOn_6 := dk_seg dksX3_goOn_5 22 rfl rfl
theorem dksX3_goOn_7 : cX3_goOn.data.toList.drop 162 = dktX3_goOn_7 := dk_seg dksX3_goOn_6 24 rfl rfl
theorem dX3_goOn_0 : decode cX3_goOn 0 = .ok (.aload_n 0, 1) := dk_42 (dk_at dksX3_goOn_0 0 rfl rfl)
theorem dX3_goOn_1 : decode cX3_goOn 1 = .ok (.aload_n 0, 1) := dk_42 (dk_at dksX3_goOn_0 1 rfl rfl)
theorem dX3_goOn_2 : decode cX3_goOn 2 = .ok (.iload_n 1, 1) := dk_27 (dk_at dksX3_goOn_0 2 rfl rfl)
theorem dX3_goOn_3 : decode cX3_goOn 3 = .ok (.invokevirtual 226, 3) := dk_182 0 226 (dk_at dksX3_goOn_0 3 rfl rfl)
theorem dX3_goOn_6 : decode cX3_goOn 6 = .ok (.ifCond .ne 7, 3) := dk_154 0 7 (dk_at dksX3_goOn_0 6 rfl rfl)
theorem dX3_goOn_9 : decode cX3_goOn 9 = .ok (.iconst 1, 1) := dk_4 (dk_at dksX3_goOn_0 9 rfl rfl)
theorem dX3_goOn_10 : decode cX3_goOn 10 = .ok (.goto 34, 3) := dk_167 0 34 (dk_at dksX3_goOn_0 10 rfl rfl)
theorem dX3_goOn_13 : decode cX3_goOn 13 = .ok (.aload_n 0, 1) := dk_42 (dk_at dksX3_goOn_0 13 rfl rfl)
theorem dX3_goOn_14 : decode cX3_goOn 14 = .ok (.getfield 22, 3) := dk_180 0 22 (dk_at dksX3_goOn_0 14 rfl rfl)
theorem dX3_goOn_17 : decode cX3_goOn 17 = .ok (.iload_n 1, 1) := dk_27 (dk_at dksX3_goOn_0 17 rfl rfl)
theorem dX3_goOn_18 : decode cX3_goOn 18 = .ok (.invokevirtual 69, 3) := dk_182 0 69 (dk_at dksX3_goOn_0 18 rfl rfl)
theorem dX3_goOn_21 : decode cX3_goOn 21 = .ok (.checkcast 157, 3) := dk_192 0 157 (dk_at dksX3_goOn_0 21 rfl rfl)
theorem dX3_goOn_24 : decode cX3_goOn 24 = .ok (.getfield 178, 3) := dk_180 0 178 (dk_at dksX3_goOn_1 0 rfl rfl)
theorem dX3_goOn_27 : decode cX3_goOn 27 = .ok (.iconst (-1), 1) := dk_2 (dk_at dksX3_goOn_1 3 rfl rfl)
theorem dX3_goOn_28 : decode cX3_goOn 28 = .ok (.if_icmp .eq 11, 3) := dk_159 0 11 (dk_at dksX3_goOn_1 4 rfl rfl)
theorem dX3_goOn_31 : decode cX3_goOn 31 = .ok (.aload_n 0, 1) := dk_42 (dk_at dksX3_goOn_1 7 rfl rfl)
theorem dX3_goOn_32 : decode cX3_goOn 32 = .ok (.iload_n 1, 1) := dk_27 (dk_at dksX3_goOn_1 8 rfl rfl)
theorem dX3_goOn_33 : decode cX3_goOn 33 = .ok (.invokevirtual 290, 3) := dk_182 1 34 (dk_at dksX3_goOn_1 9 rfl rfl)
theorem dX3_goOn_36 : decode cX3_goOn 36 = .ok (.ifCond .eq 7, 3) := dk_153 0 7 (dk_at dksX3_goOn_1 12 rfl rfl)
theorem dX3_goOn_39 : decode cX3_goOn 39 = .ok (.iconst 2, 1) := dk_5 (dk_at dksX3_goOn_1 15 rfl rfl)
theorem dX3_goOn_40 : decode cX3_goOn 40 = .ok (.goto 4, 3) := dk_167 0 4 (dk_at dksX3_goOn_1 16 rfl rfl)
theorem dX3_goOn_43 : decode cX3_goOn 43 = .ok (.iconst 0, 1) := dk_3 (dk_at dksX3_goOn_1 19 rfl rfl)
theorem dX3_goOn_44 : decode cX3_goOn 44 = .ok (.invokevirtual 230, 3) := dk_182 0 230 (dk_at dksX3_goOn_1 20 rfl rfl)
theorem dX3_goOn_47 : decode cX3_goOn 47 = .ok (.ifCond .eq 5, 3) := dk_153 0 5 (dk_at dksX3_goOn_2 0 rfl rfl)
theorem dX3_goOn_50 : decode cX3_goOn 50 = .ok (.iconst 0, 1) := dk_3 (dk_at dksX3_goOn_2 3 rfl rfl)
theorem dX3_goOn_51 : decode cX3_goOn 51 = .ok (.ireturn, 1) := dk_172 (dk_at dksX3_goOn_2 4 rfl rfl)
theorem dX3_goOn_52 : decode cX3_goOn 52 = .ok (.aload_n 0, 1) := dk_42 (dk_at dksX3_goOn_2 5 rfl rfl)
theorem dX3_goOn_53 : decode cX3_goOn 53 = .ok (.getfield 22, 3) := dk_180 0 22 (dk_at dksX3_goOn_2 6 rfl rfl)
theorem dX3_goOn_56 : decode cX3_goOn 56 = .ok (.iload_n 1, 1) := dk_27 (dk_at dksX3_goOn_2 9 rfl rfl)
theorem dX3_goOn_57 : decode cX3_goOn 57 = .ok (.invokevirtual 69, 3) := dk_182 0 69 (dk_at dksX3_goOn_2 10 rfl rfl)
theorem dX3_goOn_60 : decode cX3_goOn 60 = .ok (.checkcast 157, 3) := dk_192 0 157 (dk_at dksX3_goOn_2 13 rfl rfl)
theorem dX3_goOn_63 : decode cX3_goOn 63 = .ok (.astore_n 2, 1) := dk_77 (dk_at dksX3_goOn_2 16 rfl rfl)
theorem dX3_goOn_64 : decode cX3_goOn 64 = .ok (.aload_n 0, 1) := dk_42 (dk_at dksX3_goOn_2 17 rfl rfl)
theorem dX3_goOn_65 : decode cX3_goOn 65 = .ok (.getfield 28, 3) := dk_180 0 28 (dk_at dksX3_goOn_2 18 rfl rfl)
theorem dX3_goOn_68 : decode cX3_goOn 68 = .ok (.aload_n 2, 1) := dk_44 (dk_at dksX3_goOn_2 21 rfl rfl)
theorem dX3_goOn_69 : decode cX3_goOn 69 = .ok (.getfield 178, 3) := dk_180 0 178 (dk_at dksX3_goOn_3 0 rfl rfl)
theorem dX3_goOn_72 : decode cX3_goOn 72 = .ok (.iconst 1, 1) := dk_4 (dk_at dksX3_goOn_3 3 rfl rfl)
theorem dX3_goOn_73 : decode cX3_goOn 73 = .ok (.iadd, 1) := dk_96 (dk_at dksX3_goOn_3 4 rfl rfl)
theorem dX3_goOn_74 : decode cX3_goOn 74 = .ok (.invokevirtual 69, 3) := dk_182 0 69 (dk_at dksX3_goOn_3 5 rfl rfl)
theorem dX3_goOn_77 : decode cX3_goOn 77 = .ok (.checkcast 130, 3) := dk_192 0 130 (dk_at dksX3_goOn_3 8 rfl rfl)
theorem dX3_goOn_80 : decode cX3_goOn 80 = .ok (.astore_n 3, 1) := dk_78 (dk_at dksX3_goOn_3 11 rfl rfl)
theorem dX3_goOn_81 : decode cX3_goOn 81 = .ok (.aload_n 3, 1) := dk_45 (dk_at dksX3_goOn_3 12 rfl rfl)
theorem dX3_goOn_82 : decode cX3_goOn 82 = .ok (.getfield 308, 3) := dk_180 1 52 (dk_at dksX3_goOn_3 13 rfl rfl)
theorem dX3_goOn_85 : decode cX3_goOn 85 = .ok (.aload_n 2, 1) := dk_44 (dk_at dksX3_goOn_3 16 rfl rfl)
theorem dX3_goOn_86 : decode cX3_goOn 86 = .ok (.getfield 260, 3) := dk_180 1 4 (dk_at dksX3_goOn_3 17 rfl rfl)
theorem dX3_goOn_89 : decode cX3_goOn 89 = .ok (.baload, 1) := dk_51 (dk_at dksX3_goOn_3 20 rfl rfl)
theorem dX3_goOn_90 : decode cX3_goOn 90 = .ok (.ifCond .eq 11, 3) := dk_153 0 11 (dk_at dksX3_goOn_3 21 rfl rfl)
theorem dX3_goOn_93 : decode cX3_goOn 93 = .ok (.aload_n 0, 1) := dk_42 (dk_at dksX3_goOn_4 0 rfl rfl)
theorem dX3_goOn_94 : decode cX3_goOn 94 = .ok (.aload_n 2, 1) := dk_44 (dk_at dksX3_goOn_4 1 rfl rfl)
theorem dX3_goOn_95 : decode cX3_goOn 95 = .ok (.invokevirtual 234, 3) := dk_182 0 234 (dk_at dksX3_goOn_4 2 rfl rfl)
theorem dX3_goOn_98 : decode cX3_goOn 98 = .ok (.bipush 111, 2) := dk_16 111 (dk_at dksX3_goOn_4 5 rfl rfl)
theorem dX3_goOn_100 : decode cX3_goOn 100 = .ok (.ireturn, 1) := dk_172 (dk_at dksX3_goOn_4 7 rfl rfl)
theorem dX3_goOn_101 : decode cX3_goOn 101 = .ok (.aload_n 3, 1) := dk_45 (dk_at dksX3_goOn_4 8 rfl rfl)
theorem dX3_goOn_102 : decode cX3_goOn 102 = .ok (.getfield 129, 3) := dk_180 0 129 (dk_at dksX3_goOn_4 9 rfl rfl)
theorem dX3_goOn_105 : decode cX3_goOn 105 = .ok (.iconst 2, 1) := dk_5 (dk_at dksX3_goOn_4 12 rfl rfl)
theorem dX3_goOn_106 : decode cX3_goOn 106 = .ok (.aload_n 2, 1) := dk_44 (dk_at dksX3_goOn_4 13 rfl rfl)
theorem dX3_goOn_107 : decode cX3_goOn 107 = .ok (.getfield 260, 3) := dk_180 1 4 (dk_at dksX3_goOn_4 14 rfl rfl)
theorem dX3_goOn_110 : decode cX3_goOn 110 = .ok (.imul, 1) := dk_104 (dk_at dksX3_goOn_4 17 rfl rfl)
theorem dX3_goOn_111 : decode cX3_goOn 111 = .ok (.iaload, 1) := dk_46 (dk_at dksX3_goOn_4 18 rfl rfl)
theorem dX3_goOn_112 : decode cX3_goOn 112 = .ok (.aload_n 2, 1) := dk_44 (dk_at dksX3_goOn_4 19 rfl rfl)
theorem dX3_goOn_113 : decode cX3_goOn 113 = .ok (.getfield 181, 3) := dk_180 0 181 (dk_at dksX3_goOn_4 20 rfl rfl)
theorem dX3_goOn_116 : decode cX3_goOn 116 = .ok (.if_icmp .eq 18, 3) := dk_159 0 18 (dk_at dksX3_goOn_5 0 rfl rfl)
theorem dX3_goOn_119 : decode cX3_goOn 119 = .ok (.aload_n 2, 1) := dk_44 (dk_at dksX3_goOn_5 3 rfl rfl)
theorem dX3_goOn_120 : decode cX3_goOn 120 = .ok (.aload_n 3, 1) := dk_45 (dk_at dksX3_goOn_5 4 rfl rfl)
theorem dX3_goOn_121 : decode cX3_goOn 121 = .ok (.getfield 129, 3) := dk_180 0 129 (dk_at dksX3_goOn_5 5 rfl rfl)
theorem dX3_goOn_124 : decode cX3_goOn 124 = .ok (.iconst 2, 1) := dk_5 (dk_at dksX3_goOn_5 8 rfl rfl)
theorem dX3_goOn_125 : decode cX3_goOn 125 = .ok (.aload_n 2, 1) := dk_44 (dk_at dksX3_goOn_5 9 rfl rfl)
theorem dX3_goOn_126 : decode cX3_goOn 126 = .ok (.getfield 260, 3) := dk_180 1 4 (dk_at dksX3_goOn_5 10 rfl rfl)
theorem dX3_goOn_129 : decode cX3_goOn 129 = .ok (.imul, 1) := dk_104 (dk_at dksX3_goOn_5 13 rfl rfl)
theorem dX3_goOn_130 : decode cX3_goOn 130 = .ok (.iaload, 1) := dk_46 (dk_at dksX3_goOn_5 14 rfl rfl)
theorem dX3_goOn_131 : decode cX3_goOn 131 = .ok (.putfield 181, 3) := dk_181 0 181 (dk_at dksX3_goOn_5 15 rfl rfl)
theorem dX3_goOn_134 : decode cX3_goOn 134 = .ok (.aload_n 2, 1) := dk_44 (dk_at dksX3_goOn_5 18 rfl rfl)
theorem dX3_goOn_135 : decode cX3_goOn 135 = .ok (.aload_n 3, 1) := dk_45 (dk_at dksX3_goOn_5 19 rfl rfl)
theorem dX3_goOn_136 : decode cX3_goOn 136 = .ok (.aload_n 3, 1) := dk_45 (dk_at dksX3_goOn_5 20 rfl rfl)
theorem dX3_goOn_137 : decode cX3_goOn 137 = .ok (.aload_n 2, 1) := dk_44 (dk_at dksX3_goOn_5 21 rfl rfl)
theorem dX3_goOn_138 : decode cX3_goOn 138 = .ok (.getfield 260, 3) := dk_180 1 4 (dk_at dksX3_goOn_6 0 rfl rfl)
theorem dX3_goOn_141 : decode cX3_goOn 141 = .ok (.invokestatic 347, 3) := dk_184 1 91 (dk_at dksX3_goOn_6 3 rfl rfl)
theorem dX3_goOn_144 : decode cX3_goOn 144 = .ok (.invokestatic 126, 3) := dk_184 0 126 (dk_at dksX3_goOn_6 6 rfl rfl)
theorem dX3_goOn_147 : decode cX3_goOn 147 = .ok (.invokestatic 356, 3) := dk_184 1 100 (dk_at dksX3_goOn_6 9 rfl rfl)
theorem dX3_goOn_150 : decode cX3_goOn 150 = .ok (.aload_n 0, 1) := dk_42 (dk_at dksX3_goOn_6 12 rfl rfl)
theorem dX3_goOn_151 : decode cX3_goOn 151 = .ok (.aload_n 2, 1) := dk_44 (dk_at dksX3_goOn_6 13 rfl rfl)
theorem dX3_goOn_152 : decode cX3_goOn 152 = .ok (.aload_n 3, 1) := dk_45 (dk_at dksX3_goOn_6 14 rfl rfl)
theorem dX3_goOn_153 : decode cX3_goOn 153 = .ok (.invokevirtual 263, 3) := dk_182 1 7 (dk_at dksX3_goOn_6 15 rfl rfl)
theorem dX3_goOn_156 : decode cX3_goOn 156 = .ok (.aload_n 0, 1) := dk_42 (dk_at dksX3_goOn_6 18 rfl rfl)
theorem dX3_goOn_157 : decode cX3_goOn 157 = .ok (.invokevirtual 244, 3) := dk_182 0 244 (dk_at dksX3_goOn_6 19 rfl rfl)
theorem dX3_goOn_160 : decode cX3_goOn 160 = .ok (.bipush 109, 2) := dk_16 109 (dk_at dksX3_goOn_6 22 rfl rfl)
theorem dX3_goOn_162 : decode cX3_goOn 162 = .ok (.ireturn, 1) := dk_172 (dk_at dksX3_goOn_7 0 rfl rfl)
abbrev cX3_join : ByteArray := prog_15_method_54_code
def yX3_join : MethodName := ⟨RX3, "join", "(I)I"⟩
def dkwX3_join_8 : List UInt8 := [172, 132, 4, 1, 167, 255, 104, 167, 255, 79, 42, 5, 181, 0, 41, 3, 172]
abbrev dktX3_join_8 : List UInt8 := dkwX3_join_8 ++ []
def dkwX3_join_7 : List UInt8 := [184, 1, 91, 184, 0, 126, 184, 1, 100, 42, 25, 6, 45, 182, 1, 7, 42, 182, 0, 244, 45, 180, 0, 214]
abbrev dktX3_join_7 : List UInt8 := dkwX3_join_7 ++ dktX3_join_8
def dkwX3_join_6 : List UInt8 := [42, 180, 0, 19, 21, 5, 182, 0, 69, 192, 0, 159, 180, 0, 168, 181, 0, 181, 25, 6, 45, 45, 21, 4]
abbrev dktX3_join_6 : List UInt8 := dkwX3_join_6 ++ dktX3_join_7
def dkwX3_join_5 : List UInt8 := [180, 0, 19, 21, 5, 182, 0, 69, 192, 0, 159, 4, 181, 0, 164, 25, 6, 21, 4, 181, 1, 4, 25, 6]
abbrev dktX3_join_5 : List UInt8 := dkwX3_join_5 ++ dktX3_join_6
def dkwX3_join_4 : List UInt8 := [180, 0, 164, 153, 0, 6, 167, 0, 90, 42, 180, 0, 22, 27, 182, 0, 69, 192, 0, 157, 58, 6, 42]
abbrev dktX3_join_4 : List UInt8 := dkwX3_join_4 ++ dktX3_join_5
def dkwX3_join_3 : List UInt8 := [192, 0, 159, 180, 0, 161, 27, 160, 0, 111, 42, 180, 0, 19, 21, 5, 182, 0, 69, 192, 0, 159]
abbrev dktX3_join_3 : List UInt8 := dkwX3_join_3 ++ dktX3_join_4
def dkwX3_join_2 : List UInt8 := [180, 1, 63, 21, 4, 46, 54, 5, 21, 5, 2, 159, 0, 130, 42, 180, 0, 19, 21, 5, 182, 0, 69]
abbrev dktX3_join_2 : List UInt8 := dkwX3_join_2 ++ dktX3_join_3
def dkwX3_join_1 : List UInt8 := [153, 0, 174, 44, 185, 0, 107, 1, 0, 192, 0, 130, 78, 3, 54, 4, 21, 4, 16, 16, 162, 0, 151, 45]
abbrev dktX3_join_1 : List UInt8 := dkwX3_join_1 ++ dktX3_join_2
def dkwX3_join_0 : List UInt8 := [42, 27, 182, 1, 104, 153, 0, 5, 3, 172, 42, 180, 0, 28, 182, 0, 97, 77, 44, 185, 0, 101, 1, 0]
abbrev dktX3_join_0 : List UInt8 := dkwX3_join_0 ++ dktX3_join_1
theorem dksX3_join_0 : cX3_join.data.toList.drop 0 = dktX3_join_0 := by decide +kernel
theorem dksX3_join_1 : cX3_join.data.toList.drop 24 = dktX3_join_1 := dk_seg dksX3_join_0 24 rfl rfl
theorem dksX3_join_2 : cX3_join.data.toList.drop 48 = dktX3_join_2 := dk_seg dksX3_join_1 24 rfl rfl
theorem dksX3_join_3 : cX3_join.data.toList.drop 71 = dktX3_join_3 := dk_seg dksX3_join_2 23 rfl rfl
theorem dksX3_join_4 : cX3_join.data.toList.drop 93 = dktX3_join_4 := dk_seg dksX3_join_3 22 rfl rfl
theorem dksX3_join_5 : cX3_join.data.toList.drop 116 = dktX3_join_5 := dk_seg dksX3_join_4 23 rfl rfl
theorem dksX3_join_6 : cX3_join.data.toList.drop 140 = dktX3_join_6 := dk_seg dksX3_join_5 24 rfl rfl
theorem dksX3_join_7 : cX3_join.data.toList.drop 164 = dktX3_join_7 := dk_seg dksX3_join_6 24 rfl rfl
theorem dksX3_join_8 : cX3_join.data.toList.drop 188 = dktX3_join_8 := dk_seg dksX3_join_7 24 rfl rfl
theorem dX3_join_0 : decode cX3_join 0 = .ok (.aload_n 0, 1) := dk_42 (dk_at dksX3_join_0 0 rfl rfl)
theorem dX3_join_1 : decode cX3_join 1 = .ok (.iload_n 1, 1) := dk_27 (dk_at dksX3_join_0 1 rfl rfl)
theorem dX3_join_2 : decode cX3_join 2 = .ok (.invokevirtual 360, 3) := dk_182 1 104 (dk_at dksX3_join_0 2 rfl rfl)
theorem dX3_join_5 : decode cX3_join 5 = .ok (.ifCond .eq 5, 3) := dk_153 0 5 (dk_at dksX3_join_0 5 rfl rfl)
theorem dX3_join_8 : decode cX3_join 8 = .ok (.iconst 0, 1) := dk_3 (dk_at dksX3_join_0 8 rfl rfl)
theorem dX3_join_9 : decode cX3_join 9 = .ok (.ireturn, 1) := dk_172 (dk_at dksX3_join_0 9 rfl rfl)
theorem dX3_join_10 : decode cX3_join 10 = .ok (.aload_n 0, 1) := dk_42 (dk_at dksX3_join_0 10 rfl rfl)
theorem dX3_join_11 : decode cX3_join 11 = .ok (.getfield 28, 3) := dk_180 0 28 (dk_at dksX3_join_0 11 rfl rfl)
theorem dX3_join_14 : decode cX3_join 14 = .ok (.invokevirtual 97, 3) := dk_182 0 97 (dk_at dksX3_join_0 14 rfl rfl)
theorem dX3_join_17 : decode cX3_join 17 = .ok (.astore_n 2, 1) := dk_77 (dk_at dksX3_join_0 17 rfl rfl)
theorem dX3_join_18 : decode cX3_join 18 = .ok (.aload_n 2, 1) := dk_44 (dk_at dksX3_join_0 18 rfl rfl)
theorem dX3_join_19 : decode cX3_join 19 = .ok (.invokeinterface 101 1, 5) := by decide +kernel
theorem dX3_join_24 : decode cX3_join 24 = .ok (.ifCond .eq 174, 3) := dk_153 0 174 (dk_at dksX3_join_1 0 rfl rfl)
theorem dX3_join_27 : decode cX3_join 27 = .ok (.aload_n 2, 1) := dk_44 (dk_at dksX3_join_1 3 rfl rfl)
theorem dX3_join_28 : decode cX3_join 28 = .ok (.invokeinterface 107 1, 5) := by decide +kernel
theorem dX3_join_33 : decode cX3_join 33 = .ok (.checkcast 130, 3) := dk_192 0 130 (dk_at dksX3_join_1 9 rfl rfl)
theorem dX3_join_36 : decode cX3_join 36 = .ok (.astore_n 3, 1) := dk_78 (dk_at dksX3_join_1 12 rfl rfl)
theorem dX3_join_37 : decode cX3_join 37 = .ok (.iconst 0, 1) := dk_3 (dk_at dksX3_join_1 13 rfl rfl)
theorem dX3_join_38 : decode cX3_join 38 = .ok (.istore 4, 2) := dk_54 4 (dk_at dksX3_join_1 14 rfl rfl)
theorem dX3_join_40 : decode cX3_join 40 = .ok (.iload 4, 2) := dk_21 4 (dk_at dksX3_join_1 16 rfl rfl)
theorem dX3_join_42 : decode cX3_join 42 = .ok (.bipush 16, 2) := dk_16 16 (dk_at dksX3_join_1 18 rfl rfl)
theorem dX3_join_44 : decode cX3_join 44 = .ok (.if_icmp .ge 151, 3) := dk_162 0 151 (dk_at dksX3_join_1 20 rfl rfl)
theorem dX3_join_47 : decode cX3_join 47 = .ok (.aload_n 3, 1) := dk_45 (dk_at dksX3_join_1 23 rfl rfl)
theorem dX3_join_48 : decode cX3_join 48 = .ok (.getfield 319, 3) := dk_180 1 63 (dk_at dksX3_join_2 0 rfl rfl)
theorem dX3_join_51 : decode cX3_join 51 = .ok (.iload 4, 2) := dk_21 4 (dk_at dksX3_join_2 3 rfl rfl)
theorem dX3_join_53 : decode cX3_join 53 = .ok (.iaload, 1) := dk_46 (dk_at dksX3_join_2 5 rfl rfl)
theorem dX3_join_54 : decode cX3_join 54 = .ok (.istore 5, 2) := dk_54 5 (dk_at dksX3_join_2 6 rfl rfl)
theorem dX3_join_56 : decode cX3_join 56 = .ok (.iload 5, 2) := dk_21 5 (dk_at dksX3_join_2 8 rfl rfl)
theorem dX3_join_58 : decode cX3_join 58 = .ok (.iconst (-1), 1) := dk_2 (dk_at dksX3_join_2 10 rfl rfl)
theorem dX3_join_59 : decode cX3_join 59 = .ok (.if_icmp .eq 130, 3) := dk_159 0 130 (dk_at dksX3_join_2 11 rfl rfl)
theorem dX3_join_62 : decode cX3_join 62 = .ok (.aload_n 0, 1) := dk_42 (dk_at dksX3_join_2 14 rfl rfl)
theorem dX3_join_63 : decode cX3_join 63 = .ok (.getfield 19, 3) := dk_180 0 19 (dk_at dksX3_join_2 15 rfl rfl)
theorem dX3_join_66 : decode cX3_join 66 = .ok (.iload 5, 2) := dk_21 5 (dk_at dksX3_join_2 18 rfl rfl)
theorem dX3_join_68 : decode cX3_join 68 = .ok (.invokevirtual 69, 3) := dk_182 0 69 (dk_at dksX3_join_2 20 rfl rfl)
theorem dX3_join_71 : decode cX3_join 71 = .ok (.checkcast 159, 3) := dk_192 0 159 (dk_at dksX3_join_3 0 rfl rfl)
theorem dX3_join_74 : decode cX3_join 74 = .ok (.getfield 161, 3) := dk_180 0 161 (dk_at dksX3_join_3 3 rfl rfl)
theorem dX3_join_77 : decode cX3_join 77 = .ok (.iload_n 1, 1) := dk_27 (dk_at dksX3_join_3 6 rfl rfl)
theorem dX3_join_78 : decode cX3_join 78 = .ok (.if_icmp .ne 111, 3) := dk_160 0 111 (dk_at dksX3_join_3 7 rfl rfl)
theorem dX3_join_81 : decode cX3_join 81 = .ok (.aload_n 0, 1) := dk_42 (dk_at dksX3_join_3 10 rfl rfl)
theorem dX3_join_82 : decode cX3_join 82 = .ok (.getfield 19, 3) := dk_180 0 19 (dk_at dksX3_join_3 11 rfl rfl)
theorem dX3_join_85 : decode cX3_join 85 = .ok (.iload 5, 2) := dk_21 5 (dk_at dksX3_join_3 14 rfl rfl)
theorem dX3_join_87 : decode cX3_join 87 = .ok (.invokevirtual 69, 3) := dk_182 0 69 (dk_at dksX3_join_3 16 rfl rfl)
theorem dX3_join_90 : decode cX3_join 90 = .ok (.checkcast 159, 3) := dk_192 0 159 (dk_at dksX3_join_3 19 rfl rfl)
theorem dX3_join_93 : decode cX3_join 93 = .ok (.getfield 164, 3) := dk_180 0 164 (dk_at dksX3_join_4 0 rfl rfl)
theorem dX3_join_96 : decode cX3_join 96 = .ok (.ifCond .eq 6, 3) := dk_153 0 6 (dk_at dksX3_join_4 3 rfl rfl)
theorem dX3_join_99 : decode cX3_join 99 = .ok (.goto 90, 3) := dk_167 0 90 (dk_at dksX3_join_4 6 rfl rfl)
theorem dX3_join_102 : decode cX3_join 102 = .ok (.aload_n 0, 1) := dk_42 (dk_at dksX3_join_4 9 rfl rfl)
theorem dX3_join_103 : decode cX3_join 103 = .ok (.getfield 22, 3) := dk_180 0 22 (dk_at dksX3_join_4 10 rfl rfl)
theorem dX3_join_106 : decode cX3_join 106 = .ok (.iload_n 1, 1) := dk_27 (dk_at dksX3_join_4 13 rfl rfl)
theorem dX3_join_107 : decode cX3_join 107 = .ok (.invokevirtual 69, 3) := dk_182 0 69 (dk_at dksX3_join_4 14 rfl rfl)
theorem dX3_join_110 : decode cX3_join 110 = .ok (.checkcast 157, 3) := dk_192 0 157 (dk_at dksX3_join_4 17 rfl rfl)
theorem dX3_join_113 : decode cX3_join 113 = .ok (.astore 6, 2) := dk_58 6 (dk_at dksX3_join_4 20 rfl rfl)
theorem dX3_join_115 : decode cX3_join 115 = .ok (.aload_n 0, 1) := dk_42 (dk_at dksX3_join_4 22 rfl rfl)
theorem dX3_join_116 : decode cX3_join 116 = .ok (.getfield 19, 3) := dk_180 0 19 (dk_at dksX3_join_5 0 rfl rfl)
theorem dX3_join_119 : decode cX3_join 119 = .ok (.iload 5, 2) := dk_21 5 (dk_at dksX3_join_5 3 rfl rfl)
theorem dX3_join_121 : decode cX3_join 121 = .ok (.invokevirtual 69, 3) := dk_182 0 69 (dk_at dksX3_join_5 5 rfl rfl)
theorem dX3_join_124 : decode cX3_join 124 = .ok (.checkcast 159, 3) := dk_192 0 159 (dk_at dksX3_join_5 8 rfl rfl)
theorem dX3_join_127 : decode cX3_join 127 = .ok (.iconst 1, 1) := dk_4 (dk_at dksX3_join_5 11 rfl rfl)
theorem dX3_join_128 : decode cX3_join 128 = .ok (.putfield 164, 3) := dk_181 0 164 (dk_at dksX3_join_5 12 rfl rfl)
theorem dX3_join_131 : decode cX3_join 131 = .ok (.aload 6, 2) := dk_25 6 (dk_at dksX3_join_5 15 rfl rfl)
theorem dX3_join_133 : decode cX3_join 133 = .ok (.iload 4, 2) := dk_21 4 (dk_at dksX3_join_5 17 rfl rfl)
theorem dX3_join_135 : decode cX3_join 135 = .ok (.putfield 260, 3) := dk_181 1 4 (dk_at dksX3_join_5 19 rfl rfl)
theorem dX3_join_138 : decode cX3_join 138 = .ok (.aload 6, 2) := dk_25 6 (dk_at dksX3_join_5 22 rfl rfl)
theorem dX3_join_140 : decode cX3_join 140 = .ok (.aload_n 0, 1) := dk_42 (dk_at dksX3_join_6 0 rfl rfl)
theorem dX3_join_141 : decode cX3_join 141 = .ok (.getfield 19, 3) := dk_180 0 19 (dk_at dksX3_join_6 1 rfl rfl)
theorem dX3_join_144 : decode cX3_join 144 = .ok (.iload 5, 2) := dk_21 5 (dk_at dksX3_join_6 4 rfl rfl)
theorem dX3_join_146 : decode cX3_join 146 = .ok (.invokevirtual 69, 3) := dk_182 0 69 (dk_at dksX3_join_6 6 rfl rfl)
theorem dX3_join_149 : decode cX3_join 149 = .ok (.checkcast 159, 3) := dk_192 0 159 (dk_at dksX3_join_6 9 rfl rfl)
theorem dX3_join_152 : decode cX3_join 152 = .ok (.getfield 168, 3) := dk_180 0 168 (dk_at dksX3_join_6 12 rfl rfl)
theorem dX3_join_155 : decode cX3_join 155 = .ok (.putfield 181, 3) := dk_181 0 181 (dk_at dksX3_join_6 15 rfl rfl)
theorem dX3_join_158 : decode cX3_join 158 = .ok (.aload 6, 2) := dk_25 6 (dk_at dksX3_join_6 18 rfl rfl)
theorem dX3_join_160 : decode cX3_join 160 = .ok (.aload_n 3, 1) := dk_45 (dk_at dksX3_join_6 20 rfl rfl)
theorem dX3_join_161 : decode cX3_join 161 = .ok (.aload_n 3, 1) := dk_45 (dk_at dksX3_join_6 21 rfl rfl)
theorem dX3_join_162 : decode cX3_join 162 = .ok (.iload 4, 2) := dk_21 4 (dk_at dksX3_join_6 22 rfl rfl)
theorem dX3_join_164 : decode cX3_join 164 = .ok (.invokestatic 347, 3) := dk_184 1 91 (dk_at dksX3_join_7 0 rfl rfl)
theorem dX3_join_167 : decode cX3_join 167 = .ok (.invokestatic 126, 3) := dk_184 0 126 (dk_at dksX3_join_7 3 rfl rfl)
theorem dX3_join_170 : decode cX3_join 170 = .ok (.invokestatic 356, 3) := dk_184 1 100 (dk_at dksX3_join_7 6 rfl rfl)
theorem dX3_join_173 : decode cX3_join 173 = .ok (.aload_n 0, 1) := dk_42 (dk_at dksX3_join_7 9 rfl rfl)
theorem dX3_join_174 : decode cX3_join 174 = .ok (.aload 6, 2) := dk_25 6 (dk_at dksX3_join_7 10 rfl rfl)
theorem dX3_join_176 : decode cX3_join 176 = .ok (.aload_n 3, 1) := dk_45 (dk_at dksX3_join_7 12 rfl rfl)
theorem dX3_join_177 : decode cX3_join 177 = .ok (.invokevirtual 263, 3) := dk_182 1 7 (dk_at dksX3_join_7 13 rfl rfl)
theorem dX3_join_180 : decode cX3_join 180 = .ok (.aload_n 0, 1) := dk_42 (dk_at dksX3_join_7 16 rfl rfl)
theorem dX3_join_181 : decode cX3_join 181 = .ok (.invokevirtual 244, 3) := dk_182 0 244 (dk_at dksX3_join_7 17 rfl rfl)
theorem dX3_join_184 : decode cX3_join 184 = .ok (.aload_n 3, 1) := dk_45 (dk_at dksX3_join_7 20 rfl rfl)
theorem dX3_join_185 : decode cX3_join 185 = .ok (.getfield 214, 3) := dk_180 0 214 (dk_at dksX3_join_7 21 rfl rfl)
theorem dX3_join_188 : decode cX3_join 188 = .ok (.ireturn, 1) := dk_172 (dk_at dksX3_join_8 0 rfl rfl)
theorem dX3_join_189 : decode cX3_join 189 = .ok (.iinc 4 1, 3) := dk_132 4 1 (dk_at dksX3_join_8 1 rfl rfl)
theorem dX3_join_192 : decode cX3_join 192 = .ok (.goto (-152), 3) := dk_167 255 104 (dk_at dksX3_join_8 4 rfl rfl)
theorem dX3_join_195 : decode cX3_join 195 = .ok (.goto (-177), 3) := dk_167 255 79 (dk_at dksX3_join_8 7 rfl rfl)
theorem dX3_join_198 : decode cX3_join 198 = .ok (.aload_n 0, 1) := dk_42 (dk_at dksX3_join_8 10 rfl rfl)
theorem dX3_join_199 : decode cX3_join 199 = .ok (.iconst 2, 1) := dk_5 (dk_at dksX3_join_8 11 rfl rfl)
theorem dX3_join_200 : decode cX3_join 200 = .ok (.putfield 41, 3) := dk_181 0 41 (dk_at dksX3_join_8 12 rfl rfl)
theorem dX3_join_203 : decode cX3_join 203 = .ok (.iconst 0, 1) := dk_3 (dk_at dksX3_join_8 15 rfl rfl)
theorem dX3_join_204 : decode cX3_join 204 = .ok (.ireturn, 1) := dk_172 (dk_at dksX3_join_8 16 rfl rfl)
abbrev cX3_isNoPerson : ByteArray := prog_15_method_24_code
def yX3_isNoPerson : MethodName := ⟨RX3, "isNoPerson", "(I)Z"⟩
def dkwX3_isNoPerson_0 : List UInt8 := [42, 42, 27, 182, 0, 226, 153, 0, 7, 3, 167, 0, 4, 4, 182, 0, 230, 172]
abbrev dktX3_isNoPerson_0 : List UInt8 := dkwX3_isNoPerson_0 ++ []
theorem dksX3_isNoPerson_0 : cX3_isNoPerson.data.toList.drop 0 = dktX3_isNoPerson_0 := by decide +kernel
theorem dX3_isNoPerson_0 : decode cX3_isNoPerson 0 = .ok (.aload_n 0, 1) := dk_42 (dk_at dksX3_isNoPerson_0 0 rfl rfl)
theorem dX3_isNoPerson_1 : decode cX3_isNoPerson 1 = .ok (.aload_n 0, 1) := dk_42 (dk_at dksX3_isNoPerson_0 1 rfl rfl)
theorem dX3_isNoPerson_2 : decode cX3_isNoPerson 2 = .ok (.iload_n 1, 1) := dk_27 (dk_at dksX3_isNoPerson_0 2 rfl rfl)
theorem dX3_isNoPerson_3 : decode cX3_isNoPerson 3 = .ok (.invokevirtual 226, 3) := dk_182 0 226 (dk_at dksX3_isNoPerson_0 3 rfl rfl)
theorem dX3_isNoPerson_6 : decode cX3_isNoPerson 6 = .ok (.ifCond .eq 7, 3) := dk_153 0 7 (dk_at dksX3_isNoPerson_0 6 rfl rfl)
theorem dX3_isNoPerson_9 : decode cX3_isNoPerson 9 = .ok (.iconst 0, 1) := dk_3 (dk_at dksX3_isNoPerson_0 9 rfl rfl)
theorem dX3_isNoPerson_10 : decode cX3_isNoPerson 10 = .ok (.goto 4, 3) := dk_167 0 4 (dk_at dksX3_isNoPerson_0 10 rfl rfl)
theorem dX3_isNoPerson_13 : decode cX3_isNoPerson 13 = .ok (.iconst 1, 1) := dk_4 (dk_at dksX3_isNoPerson_0 13 rfl rfl)
theorem dX3_isNoPerson_14 : decode cX3_isNoPerson 14 = .ok (.invokevirtual 230, 3) := dk_182 0 230 (dk_at dksX3_isNoPerson_0 14 rfl rfl)
theorem dX3_isNoPerson_17 : decode cX3_isNoPerson 17 = .ok (.ireturn, 1) := dk_172 (dk_at dksX3_isNoPerson_0 17 rfl rfl)
abbrev cX3_leaves : ByteArray := prog_15_method_55_code
def yX3_leaves : MethodName := ⟨RX3, "leaves", "()I"⟩
def dkwX3_leaves_1 : List UInt8 := [167, 0, 10, 42, 182, 1, 40, 180, 0, 247, 172]
abbrev dktX3_leaves_1 : List UInt8 := dkwX3_leaves_1 ++ []
def dkwX3_leaves_0 : List UInt8 := [42, 42, 180, 0, 28, 182, 0, 250, 153, 0, 7, 4, 167, 0, 4, 3, 182, 0, 230, 153, 0, 7, 3]
abbrev dktX3_leaves_0 : List UInt8 := dkwX3_leaves_0 ++ dktX3_leaves_1
theorem dksX3_leaves_0 : cX3_leaves.data.toList.drop 0 = dktX3_leaves_0 := by decide +kernel
theorem dksX3_leaves_1 : cX3_leaves.data.toList.drop 23 = dktX3_leaves_1 := dk_seg dksX3_leaves_0 23 rfl rfl
theorem dX3_leaves_0 : decode cX3_leaves 0 = .ok (.aload_n 0, 1) := dk_42 (dk_at dksX3_leaves_0 0 rfl rfl)
theorem dX3_leaves_1 : decode cX3_leaves 1 = .ok (.aload_n 0, 1) := dk_42 (dk_at dksX3_leaves_0 1 rfl rfl)
theorem dX3_leaves_2 : decode cX3_leaves 2 = .ok (.getfield 28, 3) := dk_180 0 28 (dk_at dksX3_leaves_0 2 rfl rfl)
theorem dX3_leaves_5 : decode cX3_leaves 5 = .ok (.invokevirtual 250, 3) := dk_182 0 250 (dk_at dksX3_leaves_0 5 rfl rfl)
theorem dX3_leaves_8 : decode cX3_leaves 8 = .ok (.ifCond .eq 7, 3) := dk_153 0 7 (dk_at dksX3_leaves_0 8 rfl rfl)
theorem dX3_leaves_11 : decode cX3_leaves 11 = .ok (.iconst 1, 1) := dk_4 (dk_at dksX3_leaves_0 11 rfl rfl)
theorem dX3_leaves_12 : decode cX3_leaves 12 = .ok (.goto 4, 3) := dk_167 0 4 (dk_at dksX3_leaves_0 12 rfl rfl)
theorem dX3_leaves_15 : decode cX3_leaves 15 = .ok (.iconst 0, 1) := dk_3 (dk_at dksX3_leaves_0 15 rfl rfl)
theorem dX3_leaves_16 : decode cX3_leaves 16 = .ok (.invokevirtual 230, 3) := dk_182 0 230 (dk_at dksX3_leaves_0 16 rfl rfl)
theorem dX3_leaves_19 : decode cX3_leaves 19 = .ok (.ifCond .eq 7, 3) := dk_153 0 7 (dk_at dksX3_leaves_0 19 rfl rfl)
theorem dX3_leaves_22 : decode cX3_leaves 22 = .ok (.iconst 0, 1) := dk_3 (dk_at dksX3_leaves_0 22 rfl rfl)
theorem dX3_leaves_23 : decode cX3_leaves 23 = .ok (.goto 10, 3) := dk_167 0 10 (dk_at dksX3_leaves_1 0 rfl rfl)
theorem dX3_leaves_26 : decode cX3_leaves 26 = .ok (.aload_n 0, 1) := dk_42 (dk_at dksX3_leaves_1 3 rfl rfl)
theorem dX3_leaves_27 : decode cX3_leaves 27 = .ok (.invokevirtual 296, 3) := dk_182 1 40 (dk_at dksX3_leaves_1 4 rfl rfl)
theorem dX3_leaves_30 : decode cX3_leaves 30 = .ok (.getfield 247, 3) := dk_180 0 247 (dk_at dksX3_leaves_1 7 rfl rfl)
theorem dX3_leaves_33 : decode cX3_leaves 33 = .ok (.ireturn, 1) := dk_172 (dk_at dksX3_leaves_1 10 rfl rfl)
abbrev cX3_isBlank : ByteArray := prog_15_method_58_code
def yX3_isBlank : MethodName := ⟨RX3, "isBlank", "(I)Z"⟩
def dkwX3_isBlank_1 : List UInt8 := [167, 0, 4, 3, 172]
abbrev dktX3_isBlank_1 : List UInt8 := dkwX3_isBlank_1 ++ []
def dkwX3_isBlank_0 : List UInt8 := [42, 27, 182, 1, 110, 154, 0, 20, 42, 182, 1, 40, 180, 0, 129, 27, 46, 2, 160, 0, 7, 4]
abbrev dktX3_isBlank_0 : List UInt8 := dkwX3_isBlank_0 ++ dktX3_isBlank_1
theorem dksX3_isBlank_0 : cX3_isBlank.data.toList.drop 0 = dktX3_isBlank_0 := by decide +kernel
theorem dksX3_isBlank_1 : cX3_isBlank.data.toList.drop 22 = dktX3_isBlank_1 := dk_seg dksX3_isBlank_0 22 rfl rfl
theorem dX3_isBlank_0 : decode cX3_isBlank 0 = .ok (.aload_n 0, 1) := dk_42 (dk_at dksX3_isBlank_0 0 rfl rfl)
theorem dX3_isBlank_1 : decode cX3_isBlank 1 = .ok (.iload_n 1, 1) := dk_27 (dk_at dksX3_isBlank_0 1 rfl rfl)
theorem dX3_isBlank_2 : decode cX3_isBlank 2 = .ok (.invokevirtual 366, 3) := dk_182 1 110 (dk_at dksX3_isBlank_0 2 rfl rfl)
theorem dX3_isBlank_5 : decode cX3_isBlank 5 = .ok (.ifCond .ne 20, 3) := dk_154 0 20 (dk_at dksX3_isBlank_0 5 rfl rfl)
theorem dX3_isBlank_8 : decode cX3_isBlank 8 = .ok (.aload_n 0, 1) := dk_42 (dk_at dksX3_isBlank_0 8 rfl rfl)
theorem dX3_isBlank_9 : decode cX3_isBlank 9 = .ok (.invokevirtual 296, 3) := dk_182 1 40 (dk_at dksX3_isBlank_0 9 rfl rfl)
theorem dX3_isBlank_12 : decode cX3_isBlank 12 = .ok (.getfield 129, 3) := dk_180 0 129 (dk_at dksX3_isBlank_0 12 rfl rfl)
theorem dX3_isBlank_15 : decode cX3_isBlank 15 = .ok (.iload_n 1, 1) := dk_27 (dk_at dksX3_isBlank_0 15 rfl rfl)
theorem dX3_isBlank_16 : decode cX3_isBlank 16 = .ok (.iaload, 1) := dk_46 (dk_at dksX3_isBlank_0 16 rfl rfl)
theorem dX3_isBlank_17 : decode cX3_isBlank 17 = .ok (.iconst (-1), 1) := dk_2 (dk_at dksX3_isBlank_0 17 rfl rfl)
theorem dX3_isBlank_18 : decode cX3_isBlank 18 = .ok (.if_icmp .ne 7, 3) := dk_160 0 7 (dk_at dksX3_isBlank_0 18 rfl rfl)
theorem dX3_isBlank_21 : decode cX3_isBlank 21 = .ok (.iconst 1, 1) := dk_4 (dk_at dksX3_isBlank_0 21 rfl rfl)
theorem dX3_isBlank_22 : decode cX3_isBlank 22 = .ok (.goto 4, 3) := dk_167 0 4 (dk_at dksX3_isBlank_1 0 rfl rfl)
theorem dX3_isBlank_25 : decode cX3_isBlank 25 = .ok (.iconst 0, 1) := dk_3 (dk_at dksX3_isBlank_1 3 rfl rfl)
theorem dX3_isBlank_26 : decode cX3_isBlank 26 = .ok (.ireturn, 1) := dk_172 (dk_at dksX3_isBlank_1 4 rfl rfl)
abbrev cX3_isNoNode : ByteArray := prog_15_method_57_code
def yX3_isNoNode : MethodName := ⟨RX3, "isNoNode", "(I)Z"⟩
def dkwX3_isNoNode_0 : List UInt8 := [42, 42, 27, 182, 1, 107, 153, 0, 7, 3, 167, 0, 4, 4, 182, 0, 230, 172]
abbrev dktX3_isNoNode_0 : List UInt8 := dkwX3_isNoNode_0 ++ []
theorem dksX3_isNoNode_0 : cX3_isNoNode.data.toList.drop 0 = dktX3_isNoNode_0 := by decide +kernel
theorem dX3_isNoNode_0 : decode cX3_isNoNode 0 = .ok (.aload_n 0, 1) := dk_42 (dk_at dksX3_isNoNode_0 0 rfl rfl)
theorem dX3_isNoNode_1 : decode cX3_isNoNode 1 = .ok (.aload_n 0, 1) := dk_42 (dk_at dksX3_isNoNode_0 1 rfl rfl)
theorem dX3_isNoNode_2 : decode cX3_isNoNode 2 = .ok (.iload_n 1, 1) := dk_27 (dk_at dksX3_isNoNode_0 2 rfl rfl)
theorem dX3_isNoNode_3 : decode cX3_isNoNode 3 = .ok (.invokevirtual 363, 3) := dk_182 1 107 (dk_at dksX3_isNoNode_0 3 rfl rfl)
theorem dX3_isNoNode_6 : decode cX3_isNoNode 6 = .ok (.ifCond .eq 7, 3) := dk_153 0 7 (dk_at dksX3_isNoNode_0 6 rfl rfl)
theorem dX3_isNoNode_9 : decode cX3_isNoNode 9 = .ok (.iconst 0, 1) := dk_3 (dk_at dksX3_isNoNode_0 9 rfl rfl)
theorem dX3_isNoNode_10 : decode cX3_isNoNode 10 = .ok (.goto 4, 3) := dk_167 0 4 (dk_at dksX3_isNoNode_0 10 rfl rfl)
theorem dX3_isNoNode_13 : decode cX3_isNoNode 13 = .ok (.iconst 1, 1) := dk_4 (dk_at dksX3_isNoNode_0 13 rfl rfl)
theorem dX3_isNoNode_14 : decode cX3_isNoNode 14 = .ok (.invokevirtual 230, 3) := dk_182 0 230 (dk_at dksX3_isNoNode_0 14 rfl rfl)
theorem dX3_isNoNode_17 : decode cX3_isNoNode 17 = .ok (.ireturn, 1) := dk_172 (dk_at dksX3_isNoNode_0 17 rfl rfl)
abbrev cX3_isNode : ByteArray := prog_15_method_56_code
def yX3_isNode : MethodName := ⟨RX3, "isNode", "(I)Z"⟩
def dkwX3_isNode_1 : List UInt8 := [153, 0, 7, 4, 167, 0, 4, 3, 172]
abbrev dktX3_isNode_1 : List UInt8 := dkwX3_isNode_1 ++ []
def dkwX3_isNode_0 : List UInt8 := [42, 180, 0, 28, 182, 0, 250, 154, 0, 24, 27, 3, 42, 182, 1, 40, 182, 0, 150, 4, 100, 184, 0, 222]
abbrev dktX3_isNode_0 : List UInt8 := dkwX3_isNode_0 ++ dktX3_isNode_1
theorem dksX3_isNode_0 : cX3_isNode.data.toList.drop 0 = dktX3_isNode_0 := by decide +kernel
theorem dksX3_isNode_1 : cX3_isNode.data.toList.drop 24 = dktX3_isNode_1 := dk_seg dksX3_isNode_0 24 rfl rfl
theorem dX3_isNode_0 : decode cX3_isNode 0 = .ok (.aload_n 0, 1) := dk_42 (dk_at dksX3_isNode_0 0 rfl rfl)
theorem dX3_isNode_1 : decode cX3_isNode 1 = .ok (.getfield 28, 3) := dk_180 0 28 (dk_at dksX3_isNode_0 1 rfl rfl)
theorem dX3_isNode_4 : decode cX3_isNode 4 = .ok (.invokevirtual 250, 3) := dk_182 0 250 (dk_at dksX3_isNode_0 4 rfl rfl)
theorem dX3_isNode_7 : decode cX3_isNode 7 = .ok (.ifCond .ne 24, 3) := dk_154 0 24 (dk_at dksX3_isNode_0 7 rfl rfl)
theorem dX3_isNode_10 : decode cX3_isNode 10 = .ok (.iload_n 1, 1) := dk_27 (dk_at dksX3_isNode_0 10 rfl rfl)
theorem dX3_isNode_11 : decode cX3_isNode 11 = .ok (.iconst 0, 1) := dk_3 (dk_at dksX3_isNode_0 11 rfl rfl)
theorem dX3_isNode_12 : decode cX3_isNode 12 = .ok (.aload_n 0, 1) := dk_42 (dk_at dksX3_isNode_0 12 rfl rfl)
theorem dX3_isNode_13 : decode cX3_isNode 13 = .ok (.invokevirtual 296, 3) := dk_182 1 40 (dk_at dksX3_isNode_0 13 rfl rfl)
theorem dX3_isNode_16 : decode cX3_isNode 16 = .ok (.invokevirtual 150, 3) := dk_182 0 150 (dk_at dksX3_isNode_0 16 rfl rfl)
theorem dX3_isNode_19 : decode cX3_isNode 19 = .ok (.iconst 1, 1) := dk_4 (dk_at dksX3_isNode_0 19 rfl rfl)
theorem dX3_isNode_20 : decode cX3_isNode 20 = .ok (.isub, 1) := dk_100 (dk_at dksX3_isNode_0 20 rfl rfl)
theorem dX3_isNode_21 : decode cX3_isNode 21 = .ok (.invokestatic 222, 3) := dk_184 0 222 (dk_at dksX3_isNode_0 21 rfl rfl)
theorem dX3_isNode_24 : decode cX3_isNode 24 = .ok (.ifCond .eq 7, 3) := dk_153 0 7 (dk_at dksX3_isNode_1 0 rfl rfl)
theorem dX3_isNode_27 : decode cX3_isNode 27 = .ok (.iconst 1, 1) := dk_4 (dk_at dksX3_isNode_1 3 rfl rfl)
theorem dX3_isNode_28 : decode cX3_isNode 28 = .ok (.goto 4, 3) := dk_167 0 4 (dk_at dksX3_isNode_1 4 rfl rfl)
theorem dX3_isNode_31 : decode cX3_isNode 31 = .ok (.iconst 0, 1) := dk_3 (dk_at dksX3_isNode_1 7 rfl rfl)
theorem dX3_isNode_32 : decode cX3_isNode 32 = .ok (.ireturn, 1) := dk_172 (dk_at dksX3_isNode_1 8 rfl rfl)
abbrev cX3_late : ByteArray := prog_15_method_59_code
def yX3_late : MethodName := ⟨RX3, "late", "(I)I"⟩
def dkwX3_late_0 : List UInt8 := [42, 27, 182, 1, 110, 153, 0, 7, 3, 167, 0, 12, 42, 182, 1, 40, 180, 0, 139, 27, 46, 172]
abbrev dktX3_late_0 : List UInt8 := dkwX3_late_0 ++ []
theorem dksX3_late_0 : cX3_late.data.toList.drop 0 = dktX3_late_0 := by decide +kernel
theorem dX3_late_0 : decode cX3_late 0 = .ok (.aload_n 0, 1) := dk_42 (dk_at dksX3_late_0 0 rfl rfl)
theorem dX3_late_1 : decode cX3_late 1 = .ok (.iload_n 1, 1) := dk_27 (dk_at dksX3_late_0 1 rfl rfl)
theorem dX3_late_2 : decode cX3_late 2 = .ok (.invokevirtual 366, 3) := dk_182 1 110 (dk_at dksX3_late_0 2 rfl rfl)
theorem dX3_late_5 : decode cX3_late 5 = .ok (.ifCond .eq 7, 3) := dk_153 0 7 (dk_at dksX3_late_0 5 rfl rfl)
theorem dX3_late_8 : decode cX3_late 8 = .ok (.iconst 0, 1) := dk_3 (dk_at dksX3_late_0 8 rfl rfl)
theorem dX3_late_9 : decode cX3_late 9 = .ok (.goto 12, 3) := dk_167 0 12 (dk_at dksX3_late_0 9 rfl rfl)
theorem dX3_late_12 : decode cX3_late 12 = .ok (.aload_n 0, 1) := dk_42 (dk_at dksX3_late_0 12 rfl rfl)
theorem dX3_late_13 : decode cX3_late 13 = .ok (.invokevirtual 296, 3) := dk_182 1 40 (dk_at dksX3_late_0 13 rfl rfl)
theorem dX3_late_16 : decode cX3_late 16 = .ok (.getfield 139, 3) := dk_180 0 139 (dk_at dksX3_late_0 16 rfl rfl)
theorem dX3_late_19 : decode cX3_late 19 = .ok (.iload_n 1, 1) := dk_27 (dk_at dksX3_late_0 19 rfl rfl)
theorem dX3_late_20 : decode cX3_late 20 = .ok (.iaload, 1) := dk_46 (dk_at dksX3_late_0 20 rfl rfl)
theorem dX3_late_21 : decode cX3_late 21 = .ok (.ireturn, 1) := dk_172 (dk_at dksX3_late_0 21 rfl rfl)
abbrev cX3_cover : ByteArray := prog_15_method_60_code
def yX3_cover : MethodName := ⟨RX3, "cover", "(I)I"⟩
def dkwX3_cover_0 : List UInt8 := [42, 27, 182, 1, 110, 153, 0, 7, 3, 167, 0, 14, 42, 182, 1, 40, 27, 184, 1, 68, 182, 0, 56, 172]
abbrev dktX3_cover_0 : List UInt8 := dkwX3_cover_0 ++ []
theorem dksX3_cover_0 : cX3_cover.data.toList.drop 0 = dktX3_cover_0 := by decide +kernel
theorem dX3_cover_0 : decode cX3_cover 0 = .ok (.aload_n 0, 1) := dk_42 (dk_at dksX3_cover_0 0 rfl rfl)
theorem dX3_cover_1 : decode cX3_cover 1 = .ok (.iload_n 1, 1) := dk_27 (dk_at dksX3_cover_0 1 rfl rfl)
theorem dX3_cover_2 : decode cX3_cover 2 = .ok (.invokevirtual 366, 3) := dk_182 1 110 (dk_at dksX3_cover_0 2 rfl rfl)
theorem dX3_cover_5 : decode cX3_cover 5 = .ok (.ifCond .eq 7, 3) := dk_153 0 7 (dk_at dksX3_cover_0 5 rfl rfl)
theorem dX3_cover_8 : decode cX3_cover 8 = .ok (.iconst 0, 1) := dk_3 (dk_at dksX3_cover_0 8 rfl rfl)
theorem dX3_cover_9 : decode cX3_cover 9 = .ok (.goto 14, 3) := dk_167 0 14 (dk_at dksX3_cover_0 9 rfl rfl)
theorem dX3_cover_12 : decode cX3_cover 12 = .ok (.aload_n 0, 1) := dk_42 (dk_at dksX3_cover_0 12 rfl rfl)
theorem dX3_cover_13 : decode cX3_cover 13 = .ok (.invokevirtual 296, 3) := dk_182 1 40 (dk_at dksX3_cover_0 13 rfl rfl)
theorem dX3_cover_16 : decode cX3_cover 16 = .ok (.iload_n 1, 1) := dk_27 (dk_at dksX3_cover_0 16 rfl rfl)
theorem dX3_cover_17 : decode cX3_cover 17 = .ok (.invokestatic 324, 3) := dk_184 1 68 (dk_at dksX3_cover_0 17 rfl rfl)
theorem dX3_cover_20 : decode cX3_cover 20 = .ok (.invokevirtual 56, 3) := dk_182 0 56 (dk_at dksX3_cover_0 20 rfl rfl)
theorem dX3_cover_23 : decode cX3_cover 23 = .ok (.ireturn, 1) := dk_172 (dk_at dksX3_cover_0 23 rfl rfl)
abbrev cX3_coverAt : ByteArray := prog_15_method_61_code
def yX3_coverAt : MethodName := ⟨RX3, "coverAt", "(II)I"⟩
def dkwX3_coverAt_2 : List UInt8 := [167, 0, 14, 45, 28, 182, 0, 69, 192, 0, 111, 182, 0, 113, 172]
abbrev dktX3_coverAt_2 : List UInt8 := dkwX3_coverAt_2 ++ []
def dkwX3_coverAt_1 : List UInt8 := [182, 0, 56, 4, 100, 184, 0, 222, 153, 0, 7, 3, 167, 0, 4, 5, 182, 0, 230, 153, 0, 7, 3]
abbrev dktX3_coverAt_1 : List UInt8 := dkwX3_coverAt_1 ++ dktX3_coverAt_2
def dkwX3_coverAt_0 : List UInt8 := [42, 27, 182, 1, 110, 153, 0, 5, 3, 172, 42, 182, 1, 40, 27, 184, 1, 68, 78, 42, 28, 3, 45]
abbrev dktX3_coverAt_0 : List UInt8 := dkwX3_coverAt_0 ++ dktX3_coverAt_1
theorem dksX3_coverAt_0 : cX3_coverAt.data.toList.drop 0 = dktX3_coverAt_0 := by decide +kernel
theorem dksX3_coverAt_1 : cX3_coverAt.data.toList.drop 23 = dktX3_coverAt_1 := dk_seg dksX3_coverAt_0 23 rfl rfl
theorem dksX3_coverAt_2 : cX3_coverAt.data.toList.drop 46 = dktX3_coverAt_2 := dk_seg dksX3_coverAt_1 23 rfl rfl
theorem dX3_coverAt_0 : decode cX3_coverAt 0 = .ok (.aload_n 0, 1) := dk_42 (dk_at dksX3_coverAt_0 0 rfl rfl)
theorem dX3_coverAt_1 : decode cX3_coverAt 1 = .ok (.iload_n 1, 1) := dk_27 (dk_at dksX3_coverAt_0 1 rfl rfl)
theorem dX3_coverAt_2 : decode cX3_coverAt 2 = .ok (.invokevirtual 366, 3) := dk_182 1 110 (dk_at dksX3_coverAt_0 2 rfl rfl)
theorem dX3_coverAt_5 : decode cX3_coverAt 5 = .ok (.ifCond .eq 5, 3) := dk_153 0 5 (dk_at dksX3_coverAt_0 5 rfl rfl)
theorem dX3_coverAt_8 : decode cX3_coverAt 8 = .ok (.iconst 0, 1) := dk_3 (dk_at dksX3_coverAt_0 8 rfl rfl)
theorem dX3_coverAt_9 : decode cX3_coverAt 9 = .ok (.ireturn, 1) := dk_172 (dk_at dksX3_coverAt_0 9 rfl rfl)
theorem dX3_coverAt_10 : decode cX3_coverAt 10 = .ok (.aload_n 0, 1) := dk_42 (dk_at dksX3_coverAt_0 10 rfl rfl)
theorem dX3_coverAt_11 : decode cX3_coverAt 11 = .ok (.invokevirtual 296, 3) := dk_182 1 40 (dk_at dksX3_coverAt_0 11 rfl rfl)
theorem dX3_coverAt_14 : decode cX3_coverAt 14 = .ok (.iload_n 1, 1) := dk_27 (dk_at dksX3_coverAt_0 14 rfl rfl)
theorem dX3_coverAt_15 : decode cX3_coverAt 15 = .ok (.invokestatic 324, 3) := dk_184 1 68 (dk_at dksX3_coverAt_0 15 rfl rfl)
theorem dX3_coverAt_18 : decode cX3_coverAt 18 = .ok (.astore_n 3, 1) := dk_78 (dk_at dksX3_coverAt_0 18 rfl rfl)
theorem dX3_coverAt_19 : decode cX3_coverAt 19 = .ok (.aload_n 0, 1) := dk_42 (dk_at dksX3_coverAt_0 19 rfl rfl)
theorem dX3_coverAt_20 : decode cX3_coverAt 20 = .ok (.iload_n 2, 1) := dk_28 (dk_at dksX3_coverAt_0 20 rfl rfl)
theorem dX3_coverAt_21 : decode cX3_coverAt 21 = .ok (.iconst 0, 1) := dk_3 (dk_at dksX3_coverAt_0 21 rfl rfl)
theorem dX3_coverAt_22 : decode cX3_coverAt 22 = .ok (.aload_n 3, 1) := dk_45 (dk_at dksX3_coverAt_0 22 rfl rfl)
theorem dX3_coverAt_23 : decode cX3_coverAt 23 = .ok (.invokevirtual 56, 3) := dk_182 0 56 (dk_at dksX3_coverAt_1 0 rfl rfl)
theorem dX3_coverAt_26 : decode cX3_coverAt 26 = .ok (.iconst 1, 1) := dk_4 (dk_at dksX3_coverAt_1 3 rfl rfl)
theorem dX3_coverAt_27 : decode cX3_coverAt 27 = .ok (.isub, 1) := dk_100 (dk_at dksX3_coverAt_1 4 rfl rfl)
theorem dX3_coverAt_28 : decode cX3_coverAt 28 = .ok (.invokestatic 222, 3) := dk_184 0 222 (dk_at dksX3_coverAt_1 5 rfl rfl)
theorem dX3_coverAt_31 : decode cX3_coverAt 31 = .ok (.ifCond .eq 7, 3) := dk_153 0 7 (dk_at dksX3_coverAt_1 8 rfl rfl)
theorem dX3_coverAt_34 : decode cX3_coverAt 34 = .ok (.iconst 0, 1) := dk_3 (dk_at dksX3_coverAt_1 11 rfl rfl)
theorem dX3_coverAt_35 : decode cX3_coverAt 35 = .ok (.goto 4, 3) := dk_167 0 4 (dk_at dksX3_coverAt_1 12 rfl rfl)
theorem dX3_coverAt_38 : decode cX3_coverAt 38 = .ok (.iconst 2, 1) := dk_5 (dk_at dksX3_coverAt_1 15 rfl rfl)
theorem dX3_coverAt_39 : decode cX3_coverAt 39 = .ok (.invokevirtual 230, 3) := dk_182 0 230 (dk_at dksX3_coverAt_1 16 rfl rfl)
theorem dX3_coverAt_42 : decode cX3_coverAt 42 = .ok (.ifCond .eq 7, 3) := dk_153 0 7 (dk_at dksX3_coverAt_1 19 rfl rfl)
theorem dX3_coverAt_45 : decode cX3_coverAt 45 = .ok (.iconst 0, 1) := dk_3 (dk_at dksX3_coverAt_1 22 rfl rfl)
theorem dX3_coverAt_46 : decode cX3_coverAt 46 = .ok (.goto 14, 3) := dk_167 0 14 (dk_at dksX3_coverAt_2 0 rfl rfl)
theorem dX3_coverAt_49 : decode cX3_coverAt 49 = .ok (.aload_n 3, 1) := dk_45 (dk_at dksX3_coverAt_2 3 rfl rfl)
theorem dX3_coverAt_50 : decode cX3_coverAt 50 = .ok (.iload_n 2, 1) := dk_28 (dk_at dksX3_coverAt_2 4 rfl rfl)
theorem dX3_coverAt_51 : decode cX3_coverAt 51 = .ok (.invokevirtual 69, 3) := dk_182 0 69 (dk_at dksX3_coverAt_2 5 rfl rfl)
theorem dX3_coverAt_54 : decode cX3_coverAt 54 = .ok (.checkcast 111, 3) := dk_192 0 111 (dk_at dksX3_coverAt_2 8 rfl rfl)
theorem dX3_coverAt_57 : decode cX3_coverAt 57 = .ok (.invokevirtual 113, 3) := dk_182 0 113 (dk_at dksX3_coverAt_2 11 rfl rfl)
theorem dX3_coverAt_60 : decode cX3_coverAt 60 = .ok (.ireturn, 1) := dk_172 (dk_at dksX3_coverAt_2 14 rfl rfl)
abbrev cX3_personAt : ByteArray := prog_15_method_62_code
def yX3_personAt : MethodName := ⟨RX3, "personAt", "(I)I"⟩
def dkwX3_personAt_3 : List UInt8 := [167, 0, 12, 42, 182, 1, 40, 180, 0, 254, 27, 46, 172]
abbrev dktX3_personAt_3 : List UInt8 := dkwX3_personAt_3 ++ []
def dkwX3_personAt_2 : List UInt8 := [180, 0, 129, 5, 27, 104, 46, 2, 160, 0, 7, 5, 167, 0, 4, 3, 182, 0, 230, 153, 0, 7, 3]
abbrev dktX3_personAt_2 : List UInt8 := dkwX3_personAt_2 ++ dktX3_personAt_3
def dkwX3_personAt_1 : List UInt8 := [184, 0, 222, 153, 0, 7, 3, 167, 0, 4, 4, 182, 0, 230, 153, 0, 5, 3, 172, 42, 42, 182, 1, 40]
abbrev dktX3_personAt_1 : List UInt8 := dkwX3_personAt_1 ++ dktX3_personAt_2
def dkwX3_personAt_0 : List UInt8 := [42, 42, 180, 0, 28, 182, 0, 250, 154, 0, 24, 27, 3, 42, 182, 1, 40, 180, 0, 247, 4, 100]
abbrev dktX3_personAt_0 : List UInt8 := dkwX3_personAt_0 ++ dktX3_personAt_1
theorem dksX3_personAt_0 : cX3_personAt.data.toList.drop 0 = dktX3_personAt_0 := by decide +kernel
theorem dksX3_personAt_1 : cX3_personAt.data.toList.drop 22 = dktX3_personAt_1 := dk_seg dksX3_personAt_0 22 rfl rfl
theorem dksX3_personAt_2 : cX3_personAt.data.toList.drop 46 = dktX3_personAt_2 := dk_seg dksX3_personAt_1 24 rfl rfl
theorem dksX3_personAt_3 : cX3_personAt.data.toList.drop 69 = dktX3_personAt_3 := dk_seg dksX3_personAt_2 23 rfl rfl
theorem dX3_personAt_0 : decode cX3_personAt 0 = .ok (.aload_n 0, 1) := dk_42 (dk_at dksX3_personAt_0 0 rfl rfl)
theorem dX3_personAt_1 : decode cX3_personAt 1 = .ok (.aload_n 0, 1) := dk_42 (dk_at dksX3_personAt_0 1 rfl rfl)
theorem dX3_personAt_2 : decode cX3_personAt 2 = .ok (.getfield 28, 3) := dk_180 0 28 (dk_at dksX3_personAt_0 2 rfl rfl)
theorem dX3_personAt_5 : decode cX3_personAt 5 = .ok (.invokevirtual 250, 3) := dk_182 0 250 (dk_at dksX3_personAt_0 5 rfl rfl)
theorem dX3_personAt_8 : decode cX3_personAt 8 = .ok (.ifCond .ne 24, 3) := dk_154 0 24 (dk_at dksX3_personAt_0 8 rfl rfl)
theorem dX3_personAt_11 : decode cX3_personAt 11 = .ok (.iload_n 1, 1) := dk_27 (dk_at dksX3_personAt_0 11 rfl rfl)
theorem dX3_personAt_12 : decode cX3_personAt 12 = .ok (.iconst 0, 1) := dk_3 (dk_at dksX3_personAt_0 12 rfl rfl)
theorem dX3_personAt_13 : decode cX3_personAt 13 = .ok (.aload_n 0, 1) := dk_42 (dk_at dksX3_personAt_0 13 rfl rfl)
theorem dX3_personAt_14 : decode cX3_personAt 14 = .ok (.invokevirtual 296, 3) := dk_182 1 40 (dk_at dksX3_personAt_0 14 rfl rfl)
theorem dX3_personAt_17 : decode cX3_personAt 17 = .ok (.getfield 247, 3) := dk_180 0 247 (dk_at dksX3_personAt_0 17 rfl rfl)
theorem dX3_personAt_20 : decode cX3_personAt 20 = .ok (.iconst 1, 1) := dk_4 (dk_at dksX3_personAt_0 20 rfl rfl)
theorem dX3_personAt_21 : decode cX3_personAt 21 = .ok (.isub, 1) := dk_100 (dk_at dksX3_personAt_0 21 rfl rfl)
theorem dX3_personAt_22 : decode cX3_personAt 22 = .ok (.invokestatic 222, 3) := dk_184 0 222 (dk_at dksX3_personAt_1 0 rfl rfl)
theorem dX3_personAt_25 : decode cX3_personAt 25 = .ok (.ifCond .eq 7, 3) := dk_153 0 7 (dk_at dksX3_personAt_1 3 rfl rfl)
theorem dX3_personAt_28 : decode cX3_personAt 28 = .ok (.iconst 0, 1) := dk_3 (dk_at dksX3_personAt_1 6 rfl rfl)
theorem dX3_personAt_29 : decode cX3_personAt 29 = .ok (.goto 4, 3) := dk_167 0 4 (dk_at dksX3_personAt_1 7 rfl rfl)
theorem dX3_personAt_32 : decode cX3_personAt 32 = .ok (.iconst 1, 1) := dk_4 (dk_at dksX3_personAt_1 10 rfl rfl)
theorem dX3_personAt_33 : decode cX3_personAt 33 = .ok (.invokevirtual 230, 3) := dk_182 0 230 (dk_at dksX3_personAt_1 11 rfl rfl)
theorem dX3_personAt_36 : decode cX3_personAt 36 = .ok (.ifCond .eq 5, 3) := dk_153 0 5 (dk_at dksX3_personAt_1 14 rfl rfl)
theorem dX3_personAt_39 : decode cX3_personAt 39 = .ok (.iconst 0, 1) := dk_3 (dk_at dksX3_personAt_1 17 rfl rfl)
theorem dX3_personAt_40 : decode cX3_personAt 40 = .ok (.ireturn, 1) := dk_172 (dk_at dksX3_personAt_1 18 rfl rfl)
theorem dX3_personAt_41 : decode cX3_personAt 41 = .ok (.aload_n 0, 1) := dk_42 (dk_at dksX3_personAt_1 19 rfl rfl)
theorem dX3_personAt_42 : decode cX3_personAt 42 = .ok (.aload_n 0, 1) := dk_42 (dk_at dksX3_personAt_1 20 rfl rfl)
theorem dX3_personAt_43 : decode cX3_personAt 43 = .ok (.invokevirtual 296, 3) := dk_182 1 40 (dk_at dksX3_personAt_1 21 rfl rfl)
theorem dX3_personAt_46 : decode cX3_personAt 46 = .ok (.getfield 129, 3) := dk_180 0 129 (dk_at dksX3_personAt_2 0 rfl rfl)
theorem dX3_personAt_49 : decode cX3_personAt 49 = .ok (.iconst 2, 1) := dk_5 (dk_at dksX3_personAt_2 3 rfl rfl)
theorem dX3_personAt_50 : decode cX3_personAt 50 = .ok (.iload_n 1, 1) := dk_27 (dk_at dksX3_personAt_2 4 rfl rfl)
theorem dX3_personAt_51 : decode cX3_personAt 51 = .ok (.imul, 1) := dk_104 (dk_at dksX3_personAt_2 5 rfl rfl)
theorem dX3_personAt_52 : decode cX3_personAt 52 = .ok (.iaload, 1) := dk_46 (dk_at dksX3_personAt_2 6 rfl rfl)
theorem dX3_personAt_53 : decode cX3_personAt 53 = .ok (.iconst (-1), 1) := dk_2 (dk_at dksX3_personAt_2 7 rfl rfl)
theorem dX3_personAt_54 : decode cX3_personAt 54 = .ok (.if_icmp .ne 7, 3) := dk_160 0 7 (dk_at dksX3_personAt_2 8 rfl rfl)
theorem dX3_personAt_57 : decode cX3_personAt 57 = .ok (.iconst 2, 1) := dk_5 (dk_at dksX3_personAt_2 11 rfl rfl)
theorem dX3_personAt_58 : decode cX3_personAt 58 = .ok (.goto 4, 3) := dk_167 0 4 (dk_at dksX3_personAt_2 12 rfl rfl)
theorem dX3_personAt_61 : decode cX3_personAt 61 = .ok (.iconst 0, 1) := dk_3 (dk_at dksX3_personAt_2 15 rfl rfl)
theorem dX3_personAt_62 : decode cX3_personAt 62 = .ok (.invokevirtual 230, 3) := dk_182 0 230 (dk_at dksX3_personAt_2 16 rfl rfl)
theorem dX3_personAt_65 : decode cX3_personAt 65 = .ok (.ifCond .eq 7, 3) := dk_153 0 7 (dk_at dksX3_personAt_2 19 rfl rfl)
theorem dX3_personAt_68 : decode cX3_personAt 68 = .ok (.iconst 0, 1) := dk_3 (dk_at dksX3_personAt_2 22 rfl rfl)
theorem dX3_personAt_69 : decode cX3_personAt 69 = .ok (.goto 12, 3) := dk_167 0 12 (dk_at dksX3_personAt_3 0 rfl rfl)
theorem dX3_personAt_72 : decode cX3_personAt 72 = .ok (.aload_n 0, 1) := dk_42 (dk_at dksX3_personAt_3 3 rfl rfl)
theorem dX3_personAt_73 : decode cX3_personAt 73 = .ok (.invokevirtual 296, 3) := dk_182 1 40 (dk_at dksX3_personAt_3 4 rfl rfl)
theorem dX3_personAt_76 : decode cX3_personAt 76 = .ok (.getfield 254, 3) := dk_180 0 254 (dk_at dksX3_personAt_3 7 rfl rfl)
theorem dX3_personAt_79 : decode cX3_personAt 79 = .ok (.iload_n 1, 1) := dk_27 (dk_at dksX3_personAt_3 10 rfl rfl)
theorem dX3_personAt_80 : decode cX3_personAt 80 = .ok (.iaload, 1) := dk_46 (dk_at dksX3_personAt_3 11 rfl rfl)
theorem dX3_personAt_81 : decode cX3_personAt 81 = .ok (.ireturn, 1) := dk_172 (dk_at dksX3_personAt_3 12 rfl rfl)
abbrev cX3_holds : ByteArray := prog_15_method_63_code
def yX3_holds : MethodName := ⟨RX3, "holds", "(II)Z"⟩
def dkwX3_holds_3 : List UInt8 := [192, 0, 111, 182, 0, 113, 54, 5, 21, 5, 29, 160, 0, 5, 4, 172, 167, 255, 223, 3, 172]
abbrev dktX3_holds_3 : List UInt8 := dkwX3_holds_3 ++ []
def dkwX3_holds_2 : List UInt8 := [182, 0, 97, 58, 4, 25, 4, 185, 0, 101, 1, 0, 153, 0, 29, 25, 4, 185, 0, 107, 1, 0]
abbrev dktX3_holds_2 : List UInt8 := dkwX3_holds_2 ++ dktX3_holds_3
def dkwX3_holds_1 : List UInt8 := [182, 0, 230, 153, 0, 5, 3, 172, 42, 182, 1, 40, 180, 0, 129, 28, 46, 62, 42, 27, 182, 0, 207]
abbrev dktX3_holds_1 : List UInt8 := dkwX3_holds_1 ++ dktX3_holds_2
def dkwX3_holds_0 : List UInt8 := [42, 42, 27, 182, 0, 226, 153, 0, 15, 42, 28, 182, 1, 107, 153, 0, 7, 3, 167, 0, 4, 4]
abbrev dktX3_holds_0 : List UInt8 := dkwX3_holds_0 ++ dktX3_holds_1
theorem dksX3_holds_0 : cX3_holds.data.toList.drop 0 = dktX3_holds_0 := by decide +kernel
theorem dksX3_holds_1 : cX3_holds.data.toList.drop 22 = dktX3_holds_1 := dk_seg dksX3_holds_0 22 rfl rfl
theorem dksX3_holds_2 : cX3_holds.data.toList.drop 45 = dktX3_holds_2 := dk_seg dksX3_holds_1 23 rfl rfl
theorem dksX3_holds_3 : cX3_holds.data.toList.drop 67 = dktX3_holds_3 := dk_seg dksX3_holds_2 22 rfl rfl
theorem dX3_holds_0 : decode cX3_holds 0 = .ok (.aload_n 0, 1) := dk_42 (dk_at dksX3_holds_0 0 rfl rfl)
theorem dX3_holds_1 : decode cX3_holds 1 = .ok (.aload_n 0, 1) := dk_42 (dk_at dksX3_holds_0 1 rfl rfl)
theorem dX3_holds_2 : decode cX3_holds 2 = .ok (.iload_n 1, 1) := dk_27 (dk_at dksX3_holds_0 2 rfl rfl)
theorem dX3_holds_3 : decode cX3_holds 3 = .ok (.invokevirtual 226, 3) := dk_182 0 226 (dk_at dksX3_holds_0 3 rfl rfl)
theorem dX3_holds_6 : decode cX3_holds 6 = .ok (.ifCond .eq 15, 3) := dk_153 0 15 (dk_at dksX3_holds_0 6 rfl rfl)
theorem dX3_holds_9 : decode cX3_holds 9 = .ok (.aload_n 0, 1) := dk_42 (dk_at dksX3_holds_0 9 rfl rfl)
theorem dX3_holds_10 : decode cX3_holds 10 = .ok (.iload_n 2, 1) := dk_28 (dk_at dksX3_holds_0 10 rfl rfl)
theorem dX3_holds_11 : decode cX3_holds 11 = .ok (.invokevirtual 363, 3) := dk_182 1 107 (dk_at dksX3_holds_0 11 rfl rfl)
theorem dX3_holds_14 : decode cX3_holds 14 = .ok (.ifCond .eq 7, 3) := dk_153 0 7 (dk_at dksX3_holds_0 14 rfl rfl)
theorem dX3_holds_17 : decode cX3_holds 17 = .ok (.iconst 0, 1) := dk_3 (dk_at dksX3_holds_0 17 rfl rfl)
theorem dX3_holds_18 : decode cX3_holds 18 = .ok (.goto 4, 3) := dk_167 0 4 (dk_at dksX3_holds_0 18 rfl rfl)
theorem dX3_holds_21 : decode cX3_holds 21 = .ok (.iconst 1, 1) := dk_4 (dk_at dksX3_holds_0 21 rfl rfl)
theorem dX3_holds_22 : decode cX3_holds 22 = .ok (.invokevirtual 230, 3) := dk_182 0 230 (dk_at dksX3_holds_1 0 rfl rfl)
theorem dX3_holds_25 : decode cX3_holds 25 = .ok (.ifCond .eq 5, 3) := dk_153 0 5 (dk_at dksX3_holds_1 3 rfl rfl)
theorem dX3_holds_28 : decode cX3_holds 28 = .ok (.iconst 0, 1) := dk_3 (dk_at dksX3_holds_1 6 rfl rfl)
theorem dX3_holds_29 : decode cX3_holds 29 = .ok (.ireturn, 1) := dk_172 (dk_at dksX3_holds_1 7 rfl rfl)
theorem dX3_holds_30 : decode cX3_holds 30 = .ok (.aload_n 0, 1) := dk_42 (dk_at dksX3_holds_1 8 rfl rfl)
theorem dX3_holds_31 : decode cX3_holds 31 = .ok (.invokevirtual 296, 3) := dk_182 1 40 (dk_at dksX3_holds_1 9 rfl rfl)
theorem dX3_holds_34 : decode cX3_holds 34 = .ok (.getfield 129, 3) := dk_180 0 129 (dk_at dksX3_holds_1 12 rfl rfl)
theorem dX3_holds_37 : decode cX3_holds 37 = .ok (.iload_n 2, 1) := dk_28 (dk_at dksX3_holds_1 15 rfl rfl)
theorem dX3_holds_38 : decode cX3_holds 38 = .ok (.iaload, 1) := dk_46 (dk_at dksX3_holds_1 16 rfl rfl)
theorem dX3_holds_39 : decode cX3_holds 39 = .ok (.istore_n 3, 1) := dk_62 (dk_at dksX3_holds_1 17 rfl rfl)
theorem dX3_holds_40 : decode cX3_holds 40 = .ok (.aload_n 0, 1) := dk_42 (dk_at dksX3_holds_1 18 rfl rfl)
theorem dX3_holds_41 : decode cX3_holds 41 = .ok (.iload_n 1, 1) := dk_27 (dk_at dksX3_holds_1 19 rfl rfl)
theorem dX3_holds_42 : decode cX3_holds 42 = .ok (.invokevirtual 207, 3) := dk_182 0 207 (dk_at dksX3_holds_1 20 rfl rfl)
theorem dX3_holds_45 : decode cX3_holds 45 = .ok (.invokevirtual 97, 3) := dk_182 0 97 (dk_at dksX3_holds_2 0 rfl rfl)
theorem dX3_holds_48 : decode cX3_holds 48 = .ok (.astore 4, 2) := dk_58 4 (dk_at dksX3_holds_2 3 rfl rfl)
theorem dX3_holds_50 : decode cX3_holds 50 = .ok (.aload 4, 2) := dk_25 4 (dk_at dksX3_holds_2 5 rfl rfl)
theorem dX3_holds_52 : decode cX3_holds 52 = .ok (.invokeinterface 101 1, 5) := by decide +kernel
theorem dX3_holds_57 : decode cX3_holds 57 = .ok (.ifCond .eq 29, 3) := dk_153 0 29 (dk_at dksX3_holds_2 12 rfl rfl)
theorem dX3_holds_60 : decode cX3_holds 60 = .ok (.aload 4, 2) := dk_25 4 (dk_at dksX3_holds_2 15 rfl rfl)
theorem dX3_holds_62 : decode cX3_holds 62 = .ok (.invokeinterface 107 1, 5) := by decide +kernel
theorem dX3_holds_67 : decode cX3_holds 67 = .ok (.checkcast 111, 3) := dk_192 0 111 (dk_at dksX3_holds_3 0 rfl rfl)
theorem dX3_holds_70 : decode cX3_holds 70 = .ok (.invokevirtual 113, 3) := dk_182 0 113 (dk_at dksX3_holds_3 3 rfl rfl)
theorem dX3_holds_73 : decode cX3_holds 73 = .ok (.istore 5, 2) := dk_54 5 (dk_at dksX3_holds_3 6 rfl rfl)
theorem dX3_holds_75 : decode cX3_holds 75 = .ok (.iload 5, 2) := dk_21 5 (dk_at dksX3_holds_3 8 rfl rfl)
theorem dX3_holds_77 : decode cX3_holds 77 = .ok (.iload_n 3, 1) := dk_29 (dk_at dksX3_holds_3 10 rfl rfl)
theorem dX3_holds_78 : decode cX3_holds 78 = .ok (.if_icmp .ne 5, 3) := dk_160 0 5 (dk_at dksX3_holds_3 11 rfl rfl)
theorem dX3_holds_81 : decode cX3_holds 81 = .ok (.iconst 1, 1) := dk_4 (dk_at dksX3_holds_3 14 rfl rfl)
theorem dX3_holds_82 : decode cX3_holds 82 = .ok (.ireturn, 1) := dk_172 (dk_at dksX3_holds_3 15 rfl rfl)
theorem dX3_holds_83 : decode cX3_holds 83 = .ok (.goto (-33), 3) := dk_167 255 223 (dk_at dksX3_holds_3 16 rfl rfl)
theorem dX3_holds_86 : decode cX3_holds 86 = .ok (.iconst 0, 1) := dk_3 (dk_at dksX3_holds_3 19 rfl rfl)
theorem dX3_holds_87 : decode cX3_holds 87 = .ok (.ireturn, 1) := dk_172 (dk_at dksX3_holds_3 20 rfl rfl)
abbrev cX3_key : ByteArray := prog_15_method_64_code
def yX3_key : MethodName := ⟨RX3, "key", "(I)I"⟩
def dkwX3_key_2 : List UInt8 := [192, 0, 47, 180, 0, 82, 172]
abbrev dktX3_key_2 : List UInt8 := dkwX3_key_2 ++ []
def dkwX3_key_1 : List UInt8 := [27, 182, 0, 69, 192, 0, 157, 180, 0, 178, 182, 0, 69, 192, 0, 130, 180, 0, 192, 182, 0, 69]
abbrev dktX3_key_1 : List UInt8 := dkwX3_key_1 ++ dktX3_key_2
def dkwX3_key_0 : List UInt8 := [42, 27, 182, 1, 11, 153, 0, 7, 3, 167, 0, 43, 42, 180, 0, 10, 42, 180, 0, 28, 42, 180, 0, 22]
abbrev dktX3_key_0 : List UInt8 := dkwX3_key_0 ++ dktX3_key_1
theorem dksX3_key_0 : cX3_key.data.toList.drop 0 = dktX3_key_0 := by decide +kernel
theorem dksX3_key_1 : cX3_key.data.toList.drop 24 = dktX3_key_1 := dk_seg dksX3_key_0 24 rfl rfl
theorem dksX3_key_2 : cX3_key.data.toList.drop 46 = dktX3_key_2 := dk_seg dksX3_key_1 22 rfl rfl
theorem dX3_key_0 : decode cX3_key 0 = .ok (.aload_n 0, 1) := dk_42 (dk_at dksX3_key_0 0 rfl rfl)
theorem dX3_key_1 : decode cX3_key 1 = .ok (.iload_n 1, 1) := dk_27 (dk_at dksX3_key_0 1 rfl rfl)
theorem dX3_key_2 : decode cX3_key 2 = .ok (.invokevirtual 267, 3) := dk_182 1 11 (dk_at dksX3_key_0 2 rfl rfl)
theorem dX3_key_5 : decode cX3_key 5 = .ok (.ifCond .eq 7, 3) := dk_153 0 7 (dk_at dksX3_key_0 5 rfl rfl)
theorem dX3_key_8 : decode cX3_key 8 = .ok (.iconst 0, 1) := dk_3 (dk_at dksX3_key_0 8 rfl rfl)
theorem dX3_key_9 : decode cX3_key 9 = .ok (.goto 43, 3) := dk_167 0 43 (dk_at dksX3_key_0 9 rfl rfl)
theorem dX3_key_12 : decode cX3_key 12 = .ok (.aload_n 0, 1) := dk_42 (dk_at dksX3_key_0 12 rfl rfl)
theorem dX3_key_13 : decode cX3_key 13 = .ok (.getfield 10, 3) := dk_180 0 10 (dk_at dksX3_key_0 13 rfl rfl)
theorem dX3_key_16 : decode cX3_key 16 = .ok (.aload_n 0, 1) := dk_42 (dk_at dksX3_key_0 16 rfl rfl)
theorem dX3_key_17 : decode cX3_key 17 = .ok (.getfield 28, 3) := dk_180 0 28 (dk_at dksX3_key_0 17 rfl rfl)
theorem dX3_key_20 : decode cX3_key 20 = .ok (.aload_n 0, 1) := dk_42 (dk_at dksX3_key_0 20 rfl rfl)
theorem dX3_key_21 : decode cX3_key 21 = .ok (.getfield 22, 3) := dk_180 0 22 (dk_at dksX3_key_0 21 rfl rfl)
theorem dX3_key_24 : decode cX3_key 24 = .ok (.iload_n 1, 1) := dk_27 (dk_at dksX3_key_1 0 rfl rfl)
theorem dX3_key_25 : decode cX3_key 25 = .ok (.invokevirtual 69, 3) := dk_182 0 69 (dk_at dksX3_key_1 1 rfl rfl)
theorem dX3_key_28 : decode cX3_key 28 = .ok (.checkcast 157, 3) := dk_192 0 157 (dk_at dksX3_key_1 4 rfl rfl)
theorem dX3_key_31 : decode cX3_key 31 = .ok (.getfield 178, 3) := dk_180 0 178 (dk_at dksX3_key_1 7 rfl rfl)
theorem dX3_key_34 : decode cX3_key 34 = .ok (.invokevirtual 69, 3) := dk_182 0 69 (dk_at dksX3_key_1 10 rfl rfl)
theorem dX3_key_37 : decode cX3_key 37 = .ok (.checkcast 130, 3) := dk_192 0 130 (dk_at dksX3_key_1 13 rfl rfl)
theorem dX3_key_40 : decode cX3_key 40 = .ok (.getfield 192, 3) := dk_180 0 192 (dk_at dksX3_key_1 16 rfl rfl)
theorem dX3_key_43 : decode cX3_key 43 = .ok (.invokevirtual 69, 3) := dk_182 0 69 (dk_at dksX3_key_1 19 rfl rfl)
theorem dX3_key_46 : decode cX3_key 46 = .ok (.checkcast 47, 3) := dk_192 0 47 (dk_at dksX3_key_2 0 rfl rfl)
theorem dX3_key_49 : decode cX3_key 49 = .ok (.getfield 82, 3) := dk_180 0 82 (dk_at dksX3_key_2 3 rfl rfl)
theorem dX3_key_52 : decode cX3_key 52 = .ok (.ireturn, 1) := dk_172 (dk_at dksX3_key_2 6 rfl rfl)
abbrev cX3_boxes : ByteArray := prog_15_method_65_code
def yX3_boxes : MethodName := ⟨RX3, "boxes", "()I"⟩
def dkwX3_boxes_0 : List UInt8 := [42, 3, 181, 0, 41, 42, 180, 0, 94, 172]
abbrev dktX3_boxes_0 : List UInt8 := dkwX3_boxes_0 ++ []
theorem dksX3_boxes_0 : cX3_boxes.data.toList.drop 0 = dktX3_boxes_0 := by decide +kernel
theorem dX3_boxes_0 : decode cX3_boxes 0 = .ok (.aload_n 0, 1) := dk_42 (dk_at dksX3_boxes_0 0 rfl rfl)
theorem dX3_boxes_1 : decode cX3_boxes 1 = .ok (.iconst 0, 1) := dk_3 (dk_at dksX3_boxes_0 1 rfl rfl)
theorem dX3_boxes_2 : decode cX3_boxes 2 = .ok (.putfield 41, 3) := dk_181 0 41 (dk_at dksX3_boxes_0 2 rfl rfl)
theorem dX3_boxes_5 : decode cX3_boxes 5 = .ok (.aload_n 0, 1) := dk_42 (dk_at dksX3_boxes_0 5 rfl rfl)
theorem dX3_boxes_6 : decode cX3_boxes 6 = .ok (.getfield 94, 3) := dk_180 0 94 (dk_at dksX3_boxes_0 6 rfl rfl)
theorem dX3_boxes_9 : decode cX3_boxes 9 = .ok (.ireturn, 1) := dk_172 (dk_at dksX3_boxes_0 9 rfl rfl)
abbrev cX3_held : ByteArray := prog_15_method_66_code
def yX3_held : MethodName := ⟨RX3, "held", "(I)I"⟩
def dkwX3_held_0 : List UInt8 := [42, 27, 182, 1, 104, 153, 0, 7, 3, 167, 0, 11, 42, 27, 182, 0, 207, 182, 0, 56, 172]
abbrev dktX3_held_0 : List UInt8 := dkwX3_held_0 ++ []
theorem dksX3_held_0 : cX3_held.data.toList.drop 0 = dktX3_held_0 := by decide +kernel
theorem dX3_held_0 : decode cX3_held 0 = .ok (.aload_n 0, 1) := dk_42 (dk_at dksX3_held_0 0 rfl rfl)
theorem dX3_held_1 : decode cX3_held 1 = .ok (.iload_n 1, 1) := dk_27 (dk_at dksX3_held_0 1 rfl rfl)
theorem dX3_held_2 : decode cX3_held 2 = .ok (.invokevirtual 360, 3) := dk_182 1 104 (dk_at dksX3_held_0 2 rfl rfl)
theorem dX3_held_5 : decode cX3_held 5 = .ok (.ifCond .eq 7, 3) := dk_153 0 7 (dk_at dksX3_held_0 5 rfl rfl)
theorem dX3_held_8 : decode cX3_held 8 = .ok (.iconst 0, 1) := dk_3 (dk_at dksX3_held_0 8 rfl rfl)
theorem dX3_held_9 : decode cX3_held 9 = .ok (.goto 11, 3) := dk_167 0 11 (dk_at dksX3_held_0 9 rfl rfl)
theorem dX3_held_12 : decode cX3_held 12 = .ok (.aload_n 0, 1) := dk_42 (dk_at dksX3_held_0 12 rfl rfl)
theorem dX3_held_13 : decode cX3_held 13 = .ok (.iload_n 1, 1) := dk_27 (dk_at dksX3_held_0 13 rfl rfl)
theorem dX3_held_14 : decode cX3_held 14 = .ok (.invokevirtual 207, 3) := dk_182 0 207 (dk_at dksX3_held_0 14 rfl rfl)
theorem dX3_held_17 : decode cX3_held 17 = .ok (.invokevirtual 56, 3) := dk_182 0 56 (dk_at dksX3_held_0 17 rfl rfl)
theorem dX3_held_20 : decode cX3_held 20 = .ok (.ireturn, 1) := dk_172 (dk_at dksX3_held_0 20 rfl rfl)
abbrev cX3_send : ByteArray := prog_15_method_67_code
def yX3_send : MethodName := ⟨RX3, "send", "(I)I"⟩
def dkwX3_send_7 : List UInt8 := [45, 89, 180, 1, 115, 4, 96, 181, 1, 115, 42, 182, 0, 244, 42, 180, 0, 31, 182, 0, 56, 4, 100, 172]
abbrev dktX3_send_7 : List UInt8 := dkwX3_send_7 ++ []
def dkwX3_send_6 : List UInt8 := [21, 5, 183, 0, 91, 182, 0, 52, 87, 45, 42, 45, 180, 0, 199, 2, 16, 8, 182, 0, 87, 181, 0, 199]
abbrev dktX3_send_6 : List UInt8 := dkwX3_send_6 ++ dktX3_send_7
def dkwX3_send_5 : List UInt8 := [180, 1, 115, 21, 4, 21, 5, 183, 1, 118, 182, 0, 52, 87, 42, 180, 0, 16, 187, 0, 85, 89, 21, 4]
abbrev dktX3_send_5 : List UInt8 := dkwX3_send_5 ++ dktX3_send_6
def dkwX3_send_4 : List UInt8 := [182, 0, 238, 54, 5, 42, 180, 0, 31, 187, 1, 113, 89, 44, 180, 0, 178, 44, 180, 1, 4, 45]
abbrev dktX3_send_4 : List UInt8 := dkwX3_send_4 ++ dktX3_send_5
def dkwX3_send_3 : List UInt8 := [44, 180, 0, 195, 44, 180, 1, 4, 50, 78, 42, 45, 180, 0, 199, 2, 16, 7, 182, 0, 87, 54, 4, 42]
abbrev dktX3_send_3 : List UInt8 := dkwX3_send_3 ++ dktX3_send_4
def dkwX3_send_2 : List UInt8 := [167, 0, 4, 3, 182, 0, 230, 153, 0, 5, 3, 172, 42, 180, 0, 22, 27, 182, 0, 69, 192, 0, 157, 77]
abbrev dktX3_send_2 : List UInt8 := dkwX3_send_2 ++ dktX3_send_3
def dkwX3_send_1 : List UInt8 := [180, 0, 178, 2, 160, 0, 7, 5, 167, 0, 20, 42, 180, 0, 31, 182, 0, 56, 16, 40, 160, 0, 7, 6]
abbrev dktX3_send_1 : List UInt8 := dkwX3_send_1 ++ dktX3_send_2
def dkwX3_send_0 : List UInt8 := [42, 42, 27, 182, 0, 226, 154, 0, 7, 4, 167, 0, 42, 42, 180, 0, 22, 27, 182, 0, 69, 192, 0, 157]
abbrev dktX3_send_0 : List UInt8 := dkwX3_send_0 ++ dktX3_send_1
theorem dksX3_send_0 : cX3_send.data.toList.drop 0 = dktX3_send_0 := by decide +kernel
theorem dksX3_send_1 : cX3_send.data.toList.drop 24 = dktX3_send_1 := dk_seg dksX3_send_0 24 rfl rfl
theorem dksX3_send_2 : cX3_send.data.toList.drop 48 = dktX3_send_2 := dk_seg dksX3_send_1 24 rfl rfl
theorem dksX3_send_3 : cX3_send.data.toList.drop 72 = dktX3_send_3 := dk_seg dksX3_send_2 24 rfl rfl
theorem dksX3_send_4 : cX3_send.data.toList.drop 96 = dktX3_send_4 := dk_seg dksX3_send_3 24 rfl rfl
theorem dksX3_send_5 : cX3_send.data.toList.drop 118 = dktX3_send_5 := dk_seg dksX3_send_4 22 rfl rfl
theorem dksX3_send_6 : cX3_send.data.toList.drop 142 = dktX3_send_6 := dk_seg dksX3_send_5 24 rfl rfl
theorem dksX3_send_7 : cX3_send.data.toList.drop 166 = dktX3_send_7 := dk_seg dksX3_send_6 24 rfl rfl
theorem dX3_send_0 : decode cX3_send 0 = .ok (.aload_n 0, 1) := dk_42 (dk_at dksX3_send_0 0 rfl rfl)
theorem dX3_send_1 : decode cX3_send 1 = .ok (.aload_n 0, 1) := dk_42 (dk_at dksX3_send_0 1 rfl rfl)
theorem dX3_send_2 : decode cX3_send 2 = .ok (.iload_n 1, 1) := dk_27 (dk_at dksX3_send_0 2 rfl rfl)
theorem dX3_send_3 : decode cX3_send 3 = .ok (.invokevirtual 226, 3) := dk_182 0 226 (dk_at dksX3_send_0 3 rfl rfl)
theorem dX3_send_6 : decode cX3_send 6 = .ok (.ifCond .ne 7, 3) := dk_154 0 7 (dk_at dksX3_send_0 6 rfl rfl)
theorem dX3_send_9 : decode cX3_send 9 = .ok (.iconst 1, 1) := dk_4 (dk_at dksX3_send_0 9 rfl rfl)
theorem dX3_send_10 : decode cX3_send 10 = .ok (.goto 42, 3) := dk_167 0 42 (dk_at dksX3_send_0 10 rfl rfl)
theorem dX3_send_13 : decode cX3_send 13 = .ok (.aload_n 0, 1) := dk_42 (dk_at dksX3_send_0 13 rfl rfl)
theorem dX3_send_14 : decode cX3_send 14 = .ok (.getfield 22, 3) := dk_180 0 22 (dk_at dksX3_send_0 14 rfl rfl)
theorem dX3_send_17 : decode cX3_send 17 = .ok (.iload_n 1, 1) := dk_27 (dk_at dksX3_send_0 17 rfl rfl)
theorem dX3_send_18 : decode cX3_send 18 = .ok (.invokevirtual 69, 3) := dk_182 0 69 (dk_at dksX3_send_0 18 rfl rfl)
theorem dX3_send_21 : decode cX3_send 21 = .ok (.checkcast 157, 3) := dk_192 0 157 (dk_at dksX3_send_0 21 rfl rfl)
theorem dX3_send_24 : decode cX3_send 24 = .ok (.getfield 178, 3) := dk_180 0 178 (dk_at dksX3_send_1 0 rfl rfl)
theorem dX3_send_27 : decode cX3_send 27 = .ok (.iconst (-1), 1) := dk_2 (dk_at dksX3_send_1 3 rfl rfl)
theorem dX3_send_28 : decode cX3_send 28 = .ok (.if_icmp .ne 7, 3) := dk_160 0 7 (dk_at dksX3_send_1 4 rfl rfl)
theorem dX3_send_31 : decode cX3_send 31 = .ok (.iconst 2, 1) := dk_5 (dk_at dksX3_send_1 7 rfl rfl)
theorem dX3_send_32 : decode cX3_send 32 = .ok (.goto 20, 3) := dk_167 0 20 (dk_at dksX3_send_1 8 rfl rfl)
theorem dX3_send_35 : decode cX3_send 35 = .ok (.aload_n 0, 1) := dk_42 (dk_at dksX3_send_1 11 rfl rfl)
theorem dX3_send_36 : decode cX3_send 36 = .ok (.getfield 31, 3) := dk_180 0 31 (dk_at dksX3_send_1 12 rfl rfl)
theorem dX3_send_39 : decode cX3_send 39 = .ok (.invokevirtual 56, 3) := dk_182 0 56 (dk_at dksX3_send_1 15 rfl rfl)
theorem dX3_send_42 : decode cX3_send 42 = .ok (.bipush 40, 2) := dk_16 40 (dk_at dksX3_send_1 18 rfl rfl)
theorem dX3_send_44 : decode cX3_send 44 = .ok (.if_icmp .ne 7, 3) := dk_160 0 7 (dk_at dksX3_send_1 20 rfl rfl)
theorem dX3_send_47 : decode cX3_send 47 = .ok (.iconst 3, 1) := dk_6 (dk_at dksX3_send_1 23 rfl rfl)
theorem dX3_send_48 : decode cX3_send 48 = .ok (.goto 4, 3) := dk_167 0 4 (dk_at dksX3_send_2 0 rfl rfl)
theorem dX3_send_51 : decode cX3_send 51 = .ok (.iconst 0, 1) := dk_3 (dk_at dksX3_send_2 3 rfl rfl)
theorem dX3_send_52 : decode cX3_send 52 = .ok (.invokevirtual 230, 3) := dk_182 0 230 (dk_at dksX3_send_2 4 rfl rfl)
theorem dX3_send_55 : decode cX3_send 55 = .ok (.ifCond .eq 5, 3) := dk_153 0 5 (dk_at dksX3_send_2 7 rfl rfl)
theorem dX3_send_58 : decode cX3_send 58 = .ok (.iconst 0, 1) := dk_3 (dk_at dksX3_send_2 10 rfl rfl)
theorem dX3_send_59 : decode cX3_send 59 = .ok (.ireturn, 1) := dk_172 (dk_at dksX3_send_2 11 rfl rfl)
theorem dX3_send_60 : decode cX3_send 60 = .ok (.aload_n 0, 1) := dk_42 (dk_at dksX3_send_2 12 rfl rfl)
theorem dX3_send_61 : decode cX3_send 61 = .ok (.getfield 22, 3) := dk_180 0 22 (dk_at dksX3_send_2 13 rfl rfl)
theorem dX3_send_64 : decode cX3_send 64 = .ok (.iload_n 1, 1) := dk_27 (dk_at dksX3_send_2 16 rfl rfl)
theorem dX3_send_65 : decode cX3_send 65 = .ok (.invokevirtual 69, 3) := dk_182 0 69 (dk_at dksX3_send_2 17 rfl rfl)
theorem dX3_send_68 : decode cX3_send 68 = .ok (.checkcast 157, 3) := dk_192 0 157 (dk_at dksX3_send_2 20 rfl rfl)
theorem dX3_send_71 : decode cX3_send 71 = .ok (.astore_n 2, 1) := dk_77 (dk_at dksX3_send_2 23 rfl rfl)
theorem dX3_send_72 : decode cX3_send 72 = .ok (.aload_n 2, 1) := dk_44 (dk_at dksX3_send_3 0 rfl rfl)
theorem dX3_send_73 : decode cX3_send 73 = .ok (.getfield 195, 3) := dk_180 0 195 (dk_at dksX3_send_3 1 rfl rfl)
theorem dX3_send_76 : decode cX3_send 76 = .ok (.aload_n 2, 1) := dk_44 (dk_at dksX3_send_3 4 rfl rfl)
theorem dX3_send_77 : decode cX3_send 77 = .ok (.getfield 260, 3) := dk_180 1 4 (dk_at dksX3_send_3 5 rfl rfl)
theorem dX3_send_80 : decode cX3_send 80 = .ok (.aaload, 1) := dk_50 (dk_at dksX3_send_3 8 rfl rfl)
theorem dX3_send_81 : decode cX3_send 81 = .ok (.astore_n 3, 1) := dk_78 (dk_at dksX3_send_3 9 rfl rfl)
theorem dX3_send_82 : decode cX3_send 82 = .ok (.aload_n 0, 1) := dk_42 (dk_at dksX3_send_3 10 rfl rfl)
theorem dX3_send_83 : decode cX3_send 83 = .ok (.aload_n 3, 1) := dk_45 (dk_at dksX3_send_3 11 rfl rfl)
theorem dX3_send_84 : decode cX3_send 84 = .ok (.getfield 199, 3) := dk_180 0 199 (dk_at dksX3_send_3 12 rfl rfl)
theorem dX3_send_87 : decode cX3_send 87 = .ok (.iconst (-1), 1) := dk_2 (dk_at dksX3_send_3 15 rfl rfl)
theorem dX3_send_88 : decode cX3_send 88 = .ok (.bipush 7, 2) := dk_16 7 (dk_at dksX3_send_3 16 rfl rfl)
theorem dX3_send_90 : decode cX3_send 90 = .ok (.invokevirtual 87, 3) := dk_182 0 87 (dk_at dksX3_send_3 18 rfl rfl)
theorem dX3_send_93 : decode cX3_send 93 = .ok (.istore 4, 2) := dk_54 4 (dk_at dksX3_send_3 21 rfl rfl)
theorem dX3_send_95 : decode cX3_send 95 = .ok (.aload_n 0, 1) := dk_42 (dk_at dksX3_send_3 23 rfl rfl)
theorem dX3_send_96 : decode cX3_send 96 = .ok (.invokevirtual 238, 3) := dk_182 0 238 (dk_at dksX3_send_4 0 rfl rfl)
theorem dX3_send_99 : decode cX3_send 99 = .ok (.istore 5, 2) := dk_54 5 (dk_at dksX3_send_4 3 rfl rfl)
theorem dX3_send_101 : decode cX3_send 101 = .ok (.aload_n 0, 1) := dk_42 (dk_at dksX3_send_4 5 rfl rfl)
theorem dX3_send_102 : decode cX3_send 102 = .ok (.getfield 31, 3) := dk_180 0 31 (dk_at dksX3_send_4 6 rfl rfl)
theorem dX3_send_105 : decode cX3_send 105 = .ok (.new 369, 3) := dk_187 1 113 (dk_at dksX3_send_4 9 rfl rfl)
theorem dX3_send_108 : decode cX3_send 108 = .ok (.dup, 1) := dk_89 (dk_at dksX3_send_4 12 rfl rfl)
theorem dX3_send_109 : decode cX3_send 109 = .ok (.aload_n 2, 1) := dk_44 (dk_at dksX3_send_4 13 rfl rfl)
theorem dX3_send_110 : decode cX3_send 110 = .ok (.getfield 178, 3) := dk_180 0 178 (dk_at dksX3_send_4 14 rfl rfl)
theorem dX3_send_113 : decode cX3_send 113 = .ok (.aload_n 2, 1) := dk_44 (dk_at dksX3_send_4 17 rfl rfl)
theorem dX3_send_114 : decode cX3_send 114 = .ok (.getfield 260, 3) := dk_180 1 4 (dk_at dksX3_send_4 18 rfl rfl)
theorem dX3_send_117 : decode cX3_send 117 = .ok (.aload_n 3, 1) := dk_45 (dk_at dksX3_send_4 21 rfl rfl)
theorem dX3_send_118 : decode cX3_send 118 = .ok (.getfield 371, 3) := dk_180 1 115 (dk_at dksX3_send_5 0 rfl rfl)
theorem dX3_send_121 : decode cX3_send 121 = .ok (.iload 4, 2) := dk_21 4 (dk_at dksX3_send_5 3 rfl rfl)
theorem dX3_send_123 : decode cX3_send 123 = .ok (.iload 5, 2) := dk_21 5 (dk_at dksX3_send_5 5 rfl rfl)
theorem dX3_send_125 : decode cX3_send 125 = .ok (.invokespecial 374, 3) := dk_183 1 118 (dk_at dksX3_send_5 7 rfl rfl)
theorem dX3_send_128 : decode cX3_send 128 = .ok (.invokevirtual 52, 3) := dk_182 0 52 (dk_at dksX3_send_5 10 rfl rfl)
theorem dX3_send_131 : decode cX3_send 131 = .ok (.pop, 1) := dk_87 (dk_at dksX3_send_5 13 rfl rfl)
theorem dX3_send_132 : decode cX3_send 132 = .ok (.aload_n 0, 1) := dk_42 (dk_at dksX3_send_5 14 rfl rfl)
theorem dX3_send_133 : decode cX3_send 133 = .ok (.getfield 16, 3) := dk_180 0 16 (dk_at dksX3_send_5 15 rfl rfl)
theorem dX3_send_136 : decode cX3_send 136 = .ok (.new 85, 3) := dk_187 0 85 (dk_at dksX3_send_5 18 rfl rfl)
theorem dX3_send_139 : decode cX3_send 139 = .ok (.dup, 1) := dk_89 (dk_at dksX3_send_5 21 rfl rfl)
theorem dX3_send_140 : decode cX3_send 140 = .ok (.iload 4, 2) := dk_21 4 (dk_at dksX3_send_5 22 rfl rfl)
theorem dX3_send_142 : decode cX3_send 142 = .ok (.iload 5, 2) := dk_21 5 (dk_at dksX3_send_6 0 rfl rfl)
theorem dX3_send_144 : decode cX3_send 144 = .ok (.invokespecial 91, 3) := dk_183 0 91 (dk_at dksX3_send_6 2 rfl rfl)
theorem dX3_send_147 : decode cX3_send 147 = .ok (.invokevirtual 52, 3) := dk_182 0 52 (dk_at dksX3_send_6 5 rfl rfl)
theorem dX3_send_150 : decode cX3_send 150 = .ok (.pop, 1) := dk_87 (dk_at dksX3_send_6 8 rfl rfl)
theorem dX3_send_151 : decode cX3_send 151 = .ok (.aload_n 3, 1) := dk_45 (dk_at dksX3_send_6 9 rfl rfl)
theorem dX3_send_152 : decode cX3_send 152 = .ok (.aload_n 0, 1) := dk_42 (dk_at dksX3_send_6 10 rfl rfl)
theorem dX3_send_153 : decode cX3_send 153 = .ok (.aload_n 3, 1) := dk_45 (dk_at dksX3_send_6 11 rfl rfl)
theorem dX3_send_154 : decode cX3_send 154 = .ok (.getfield 199, 3) := dk_180 0 199 (dk_at dksX3_send_6 12 rfl rfl)
theorem dX3_send_157 : decode cX3_send 157 = .ok (.iconst (-1), 1) := dk_2 (dk_at dksX3_send_6 15 rfl rfl)
theorem dX3_send_158 : decode cX3_send 158 = .ok (.bipush 8, 2) := dk_16 8 (dk_at dksX3_send_6 16 rfl rfl)
theorem dX3_send_160 : decode cX3_send 160 = .ok (.invokevirtual 87, 3) := dk_182 0 87 (dk_at dksX3_send_6 18 rfl rfl)
theorem dX3_send_163 : decode cX3_send 163 = .ok (.putfield 199, 3) := dk_181 0 199 (dk_at dksX3_send_6 21 rfl rfl)
theorem dX3_send_166 : decode cX3_send 166 = .ok (.aload_n 3, 1) := dk_45 (dk_at dksX3_send_7 0 rfl rfl)
theorem dX3_send_167 : decode cX3_send 167 = .ok (.dup, 1) := dk_89 (dk_at dksX3_send_7 1 rfl rfl)
theorem dX3_send_168 : decode cX3_send 168 = .ok (.getfield 371, 3) := dk_180 1 115 (dk_at dksX3_send_7 2 rfl rfl)
theorem dX3_send_171 : decode cX3_send 171 = .ok (.iconst 1, 1) := dk_4 (dk_at dksX3_send_7 5 rfl rfl)
theorem dX3_send_172 : decode cX3_send 172 = .ok (.iadd, 1) := dk_96 (dk_at dksX3_send_7 6 rfl rfl)
theorem dX3_send_173 : decode cX3_send 173 = .ok (.putfield 371, 3) := dk_181 1 115 (dk_at dksX3_send_7 7 rfl rfl)
theorem dX3_send_176 : decode cX3_send 176 = .ok (.aload_n 0, 1) := dk_42 (dk_at dksX3_send_7 10 rfl rfl)
theorem dX3_send_177 : decode cX3_send 177 = .ok (.invokevirtual 244, 3) := dk_182 0 244 (dk_at dksX3_send_7 11 rfl rfl)
theorem dX3_send_180 : decode cX3_send 180 = .ok (.aload_n 0, 1) := dk_42 (dk_at dksX3_send_7 14 rfl rfl)
theorem dX3_send_181 : decode cX3_send 181 = .ok (.getfield 31, 3) := dk_180 0 31 (dk_at dksX3_send_7 15 rfl rfl)
theorem dX3_send_184 : decode cX3_send 184 = .ok (.invokevirtual 56, 3) := dk_182 0 56 (dk_at dksX3_send_7 18 rfl rfl)
theorem dX3_send_187 : decode cX3_send 187 = .ok (.iconst 1, 1) := dk_4 (dk_at dksX3_send_7 21 rfl rfl)
theorem dX3_send_188 : decode cX3_send 188 = .ok (.isub, 1) := dk_100 (dk_at dksX3_send_7 22 rfl rfl)
theorem dX3_send_189 : decode cX3_send 189 = .ok (.ireturn, 1) := dk_172 (dk_at dksX3_send_7 23 rfl rfl)
abbrev cX3_read : ByteArray := prog_15_method_69_code
def yX3_read : MethodName := ⟨RX3, "read", "(II)I"⟩
def dkwX3_read_15 : List UInt8 := [192, 0, 47, 180, 0, 82, 172]
abbrev dktX3_read_15 : List UInt8 := dkwX3_read_15 ++ []
def dkwX3_read_14 : List UInt8 := [181, 1, 115, 167, 255, 161, 42, 182, 0, 244, 42, 180, 0, 10, 25, 4, 180, 1, 133, 182, 0, 69]
abbrev dktX3_read_14 : List UInt8 := dkwX3_read_14 ++ dktX3_read_15
def dkwX3_read_13 : List UInt8 := [42, 25, 5, 180, 0, 199, 2, 16, 8, 182, 0, 87, 181, 0, 199, 25, 5, 89, 180, 1, 115, 4, 96]
abbrev dktX3_read_13 : List UInt8 := dkwX3_read_13 ++ dktX3_read_14
def dkwX3_read_12 : List UInt8 := [180, 0, 204, 42, 25, 5, 180, 0, 199, 2, 16, 7, 182, 0, 87, 184, 0, 135, 182, 0, 52, 87, 25, 5]
abbrev dktX3_read_12 : List UInt8 := dkwX3_read_12 ++ dktX3_read_13
def dkwX3_read_11 : List UInt8 := [162, 0, 44, 25, 5, 180, 1, 127, 25, 5, 180, 1, 115, 184, 0, 135, 182, 0, 52, 87, 25, 5]
abbrev dktX3_read_11 : List UInt8 := dkwX3_read_11 ++ dktX3_read_12
def dkwX3_read_10 : List UInt8 := [87, 25, 5, 180, 1, 115, 25, 4, 180, 1, 125, 163, 0, 88, 25, 5, 180, 1, 115, 25, 4, 180, 1, 125]
abbrev dktX3_read_10 : List UInt8 := dkwX3_read_10 ++ dktX3_read_11
def dkwX3_read_9 : List UInt8 := [159, 0, 25, 25, 5, 180, 1, 127, 21, 6, 182, 1, 130, 87, 25, 5, 180, 0, 204, 21, 6, 182, 1, 130]
abbrev dktX3_read_9 : List UInt8 := dkwX3_read_9 ++ dktX3_read_10
def dkwX3_read_8 : List UInt8 := [21, 6, 2, 160, 0, 7, 6, 167, 0, 4, 3, 182, 0, 230, 153, 0, 5, 3, 172, 21, 6, 2]
abbrev dktX3_read_8 : List UInt8 := dkwX3_read_8 ++ dktX3_read_9
def dkwX3_read_7 : List UInt8 := [21, 6, 54, 6, 132, 7, 1, 167, 255, 207, 42, 25, 4, 180, 1, 125, 25, 5, 180, 1, 115, 162, 0, 13]
abbrev dktX3_read_7 : List UInt8 := dkwX3_read_7 ++ dktX3_read_8
def dkwX3_read_6 : List UInt8 := [21, 7, 182, 0, 69, 192, 0, 111, 182, 0, 113, 25, 4, 180, 1, 125, 160, 0, 8, 21, 7, 167, 0, 5]
abbrev dktX3_read_6 : List UInt8 := dkwX3_read_6 ++ dktX3_read_7
def dkwX3_read_5 : List UInt8 := [2, 54, 6, 3, 54, 7, 21, 7, 25, 5, 180, 1, 127, 182, 0, 56, 162, 0, 42, 25, 5, 180, 1, 127]
abbrev dktX3_read_5 : List UInt8 := dkwX3_read_5 ++ dktX3_read_6
def dkwX3_read_4 : List UInt8 := [167, 0, 4, 3, 182, 0, 230, 153, 0, 5, 3, 172, 45, 180, 0, 195, 25, 4, 180, 1, 126, 50, 58, 5]
abbrev dktX3_read_4 : List UInt8 := dkwX3_read_4 ++ dktX3_read_5
def dkwX3_read_3 : List UInt8 := [180, 1, 125, 45, 180, 0, 195, 25, 4, 180, 1, 126, 50, 180, 1, 115, 7, 96, 164, 0, 7, 5]
abbrev dktX3_read_3 : List UInt8 := dkwX3_read_3 ++ dktX3_read_4
def dkwX3_read_2 : List UInt8 := [28, 182, 0, 69, 192, 1, 113, 58, 4, 42, 45, 180, 0, 178, 25, 4, 180, 1, 124, 160, 0, 26, 25, 4]
abbrev dktX3_read_2 : List UInt8 := dkwX3_read_2 ++ dktX3_read_3
def dkwX3_read_1 : List UInt8 := [182, 0, 230, 153, 0, 5, 3, 172, 42, 180, 0, 22, 27, 182, 0, 69, 192, 0, 157, 78, 42, 180, 0, 31]
abbrev dktX3_read_1 : List UInt8 := dkwX3_read_1 ++ dktX3_read_2
def dkwX3_read_0 : List UInt8 := [42, 42, 27, 182, 0, 226, 153, 0, 15, 42, 28, 182, 1, 121, 153, 0, 7, 3, 167, 0, 4, 4]
abbrev dktX3_read_0 : List UInt8 := dkwX3_read_0 ++ dktX3_read_1
theorem dksX3_read_0 : cX3_read.data.toList.drop 0 = dktX3_read_0 := by decide +kernel
theorem dksX3_read_1 : cX3_read.data.toList.drop 22 = dktX3_read_1 := dk_seg dksX3_read_0 22 rfl rfl
theorem dksX3_read_2 : cX3_read.data.toList.drop 46 = dktX3_read_2 := dk_seg dksX3_read_1 24 rfl rfl
theorem dksX3_read_3 : cX3_read.data.toList.drop 70 = dktX3_read_3 := dk_seg dksX3_read_2 24 rfl rfl
theorem dksX3_read_4 : cX3_read.data.toList.drop 92 = dktX3_read_4 := dk_seg dksX3_read_3 22 rfl rfl
theorem dksX3_read_5 : cX3_read.data.toList.drop 116 = dktX3_read_5 := dk_seg dksX3_read_4 24 rfl rfl
theorem dksX3_read_6 : cX3_read.data.toList.drop 140 = dktX3_read_6 := dk_seg dksX3_read_5 24 rfl rfl
theorem dksX3_read_7 : cX3_read.data.toList.drop 164 = dktX3_read_7 := dk_seg dksX3_read_6 24 rfl rfl
theorem dksX3_read_8 : cX3_read.data.toList.drop 188 = dktX3_read_8 := dk_seg dksX3_read_7 24 rfl rfl
theorem dksX3_read_9 : cX3_read.data.toList.drop 210 = dktX3_read_9 := dk_seg dksX3_read_8 22 rfl rfl
theorem dksX3_read_10 : cX3_read.data.toList.drop 234 = dktX3_read_10 := dk_seg dksX3_read_9 24 rfl rfl
theorem dksX3_read_11 : cX3_read.data.toList.drop 258 = dktX3_read_11 := dk_seg dksX3_read_10 24 rfl rfl
theorem dksX3_read_12 : cX3_read.data.toList.drop 280 = dktX3_read_12 := dk_seg dksX3_read_11 22 rfl rfl
theorem dksX3_read_13 : cX3_read.data.toList.drop 304 = dktX3_read_13 := dk_seg dksX3_read_12 24 rfl rfl
theorem dksX3_read_14 : cX3_read.data.toList.drop 327 = dktX3_read_14 := dk_seg dksX3_read_13 23 rfl rfl
theorem dksX3_read_15 : cX3_read.data.toList.drop 349 = dktX3_read_15 := dk_seg dksX3_read_14 22 rfl rfl
theorem dX3_read_0 : decode cX3_read 0 = .ok (.aload_n 0, 1) := dk_42 (dk_at dksX3_read_0 0 rfl rfl)
theorem dX3_read_1 : decode cX3_read 1 = .ok (.aload_n 0, 1) := dk_42 (dk_at dksX3_read_0 1 rfl rfl)
theorem dX3_read_2 : decode cX3_read 2 = .ok (.iload_n 1, 1) := dk_27 (dk_at dksX3_read_0 2 rfl rfl)
theorem dX3_read_3 : decode cX3_read 3 = .ok (.invokevirtual 226, 3) := dk_182 0 226 (dk_at dksX3_read_0 3 rfl rfl)
theorem dX3_read_6 : decode cX3_read 6 = .ok (.ifCond .eq 15, 3) := dk_153 0 15 (dk_at dksX3_read_0 6 rfl rfl)
theorem dX3_read_9 : decode cX3_read 9 = .ok (.aload_n 0, 1) := dk_42 (dk_at dksX3_read_0 9 rfl rfl)
theorem dX3_read_10 : decode cX3_read 10 = .ok (.iload_n 2, 1) := dk_28 (dk_at dksX3_read_0 10 rfl rfl)
theorem dX3_read_11 : decode cX3_read 11 = .ok (.invokevirtual 377, 3) := dk_182 1 121 (dk_at dksX3_read_0 11 rfl rfl)
theorem dX3_read_14 : decode cX3_read 14 = .ok (.ifCond .eq 7, 3) := dk_153 0 7 (dk_at dksX3_read_0 14 rfl rfl)
theorem dX3_read_17 : decode cX3_read 17 = .ok (.iconst 0, 1) := dk_3 (dk_at dksX3_read_0 17 rfl rfl)
theorem dX3_read_18 : decode cX3_read 18 = .ok (.goto 4, 3) := dk_167 0 4 (dk_at dksX3_read_0 18 rfl rfl)
theorem dX3_read_21 : decode cX3_read 21 = .ok (.iconst 1, 1) := dk_4 (dk_at dksX3_read_0 21 rfl rfl)
theorem dX3_read_22 : decode cX3_read 22 = .ok (.invokevirtual 230, 3) := dk_182 0 230 (dk_at dksX3_read_1 0 rfl rfl)
theorem dX3_read_25 : decode cX3_read 25 = .ok (.ifCond .eq 5, 3) := dk_153 0 5 (dk_at dksX3_read_1 3 rfl rfl)
theorem dX3_read_28 : decode cX3_read 28 = .ok (.iconst 0, 1) := dk_3 (dk_at dksX3_read_1 6 rfl rfl)
theorem dX3_read_29 : decode cX3_read 29 = .ok (.ireturn, 1) := dk_172 (dk_at dksX3_read_1 7 rfl rfl)
theorem dX3_read_30 : decode cX3_read 30 = .ok (.aload_n 0, 1) := dk_42 (dk_at dksX3_read_1 8 rfl rfl)
theorem dX3_read_31 : decode cX3_read 31 = .ok (.getfield 22, 3) := dk_180 0 22 (dk_at dksX3_read_1 9 rfl rfl)
theorem dX3_read_34 : decode cX3_read 34 = .ok (.iload_n 1, 1) := dk_27 (dk_at dksX3_read_1 12 rfl rfl)
theorem dX3_read_35 : decode cX3_read 35 = .ok (.invokevirtual 69, 3) := dk_182 0 69 (dk_at dksX3_read_1 13 rfl rfl)
theorem dX3_read_38 : decode cX3_read 38 = .ok (.checkcast 157, 3) := dk_192 0 157 (dk_at dksX3_read_1 16 rfl rfl)
theorem dX3_read_41 : decode cX3_read 41 = .ok (.astore_n 3, 1) := dk_78 (dk_at dksX3_read_1 19 rfl rfl)
theorem dX3_read_42 : decode cX3_read 42 = .ok (.aload_n 0, 1) := dk_42 (dk_at dksX3_read_1 20 rfl rfl)
theorem dX3_read_43 : decode cX3_read 43 = .ok (.getfield 31, 3) := dk_180 0 31 (dk_at dksX3_read_1 21 rfl rfl)
theorem dX3_read_46 : decode cX3_read 46 = .ok (.iload_n 2, 1) := dk_28 (dk_at dksX3_read_2 0 rfl rfl)
theorem dX3_read_47 : decode cX3_read 47 = .ok (.invokevirtual 69, 3) := dk_182 0 69 (dk_at dksX3_read_2 1 rfl rfl)
theorem dX3_read_50 : decode cX3_read 50 = .ok (.checkcast 369, 3) := dk_192 1 113 (dk_at dksX3_read_2 4 rfl rfl)
theorem dX3_read_53 : decode cX3_read 53 = .ok (.astore 4, 2) := dk_58 4 (dk_at dksX3_read_2 7 rfl rfl)
theorem dX3_read_55 : decode cX3_read 55 = .ok (.aload_n 0, 1) := dk_42 (dk_at dksX3_read_2 9 rfl rfl)
theorem dX3_read_56 : decode cX3_read 56 = .ok (.aload_n 3, 1) := dk_45 (dk_at dksX3_read_2 10 rfl rfl)
theorem dX3_read_57 : decode cX3_read 57 = .ok (.getfield 178, 3) := dk_180 0 178 (dk_at dksX3_read_2 11 rfl rfl)
theorem dX3_read_60 : decode cX3_read 60 = .ok (.aload 4, 2) := dk_25 4 (dk_at dksX3_read_2 14 rfl rfl)
theorem dX3_read_62 : decode cX3_read 62 = .ok (.getfield 380, 3) := dk_180 1 124 (dk_at dksX3_read_2 16 rfl rfl)
theorem dX3_read_65 : decode cX3_read 65 = .ok (.if_icmp .ne 26, 3) := dk_160 0 26 (dk_at dksX3_read_2 19 rfl rfl)
theorem dX3_read_68 : decode cX3_read 68 = .ok (.aload 4, 2) := dk_25 4 (dk_at dksX3_read_2 22 rfl rfl)
theorem dX3_read_70 : decode cX3_read 70 = .ok (.getfield 381, 3) := dk_180 1 125 (dk_at dksX3_read_3 0 rfl rfl)
theorem dX3_read_73 : decode cX3_read 73 = .ok (.aload_n 3, 1) := dk_45 (dk_at dksX3_read_3 3 rfl rfl)
theorem dX3_read_74 : decode cX3_read 74 = .ok (.getfield 195, 3) := dk_180 0 195 (dk_at dksX3_read_3 4 rfl rfl)
theorem dX3_read_77 : decode cX3_read 77 = .ok (.aload 4, 2) := dk_25 4 (dk_at dksX3_read_3 7 rfl rfl)
theorem dX3_read_79 : decode cX3_read 79 = .ok (.getfield 382, 3) := dk_180 1 126 (dk_at dksX3_read_3 9 rfl rfl)
theorem dX3_read_82 : decode cX3_read 82 = .ok (.aaload, 1) := dk_50 (dk_at dksX3_read_3 12 rfl rfl)
theorem dX3_read_83 : decode cX3_read 83 = .ok (.getfield 371, 3) := dk_180 1 115 (dk_at dksX3_read_3 13 rfl rfl)
theorem dX3_read_86 : decode cX3_read 86 = .ok (.iconst 4, 1) := dk_7 (dk_at dksX3_read_3 16 rfl rfl)
theorem dX3_read_87 : decode cX3_read 87 = .ok (.iadd, 1) := dk_96 (dk_at dksX3_read_3 17 rfl rfl)
theorem dX3_read_88 : decode cX3_read 88 = .ok (.if_icmp .le 7, 3) := dk_164 0 7 (dk_at dksX3_read_3 18 rfl rfl)
theorem dX3_read_91 : decode cX3_read 91 = .ok (.iconst 2, 1) := dk_5 (dk_at dksX3_read_3 21 rfl rfl)
theorem dX3_read_92 : decode cX3_read 92 = .ok (.goto 4, 3) := dk_167 0 4 (dk_at dksX3_read_4 0 rfl rfl)
theorem dX3_read_95 : decode cX3_read 95 = .ok (.iconst 0, 1) := dk_3 (dk_at dksX3_read_4 3 rfl rfl)
theorem dX3_read_96 : decode cX3_read 96 = .ok (.invokevirtual 230, 3) := dk_182 0 230 (dk_at dksX3_read_4 4 rfl rfl)
theorem dX3_read_99 : decode cX3_read 99 = .ok (.ifCond .eq 5, 3) := dk_153 0 5 (dk_at dksX3_read_4 7 rfl rfl)
theorem dX3_read_102 : decode cX3_read 102 = .ok (.iconst 0, 1) := dk_3 (dk_at dksX3_read_4 10 rfl rfl)
theorem dX3_read_103 : decode cX3_read 103 = .ok (.ireturn, 1) := dk_172 (dk_at dksX3_read_4 11 rfl rfl)
theorem dX3_read_104 : decode cX3_read 104 = .ok (.aload_n 3, 1) := dk_45 (dk_at dksX3_read_4 12 rfl rfl)
theorem dX3_read_105 : decode cX3_read 105 = .ok (.getfield 195, 3) := dk_180 0 195 (dk_at dksX3_read_4 13 rfl rfl)
theorem dX3_read_108 : decode cX3_read 108 = .ok (.aload 4, 2) := dk_25 4 (dk_at dksX3_read_4 16 rfl rfl)
theorem dX3_read_110 : decode cX3_read 110 = .ok (.getfield 382, 3) := dk_180 1 126 (dk_at dksX3_read_4 18 rfl rfl)
theorem dX3_read_113 : decode cX3_read 113 = .ok (.aaload, 1) := dk_50 (dk_at dksX3_read_4 21 rfl rfl)
theorem dX3_read_114 : decode cX3_read 114 = .ok (.astore 5, 2) := dk_58 5 (dk_at dksX3_read_4 22 rfl rfl)
theorem dX3_read_116 : decode cX3_read 116 = .ok (.iconst (-1), 1) := dk_2 (dk_at dksX3_read_5 0 rfl rfl)
theorem dX3_read_117 : decode cX3_read 117 = .ok (.istore 6, 2) := dk_54 6 (dk_at dksX3_read_5 1 rfl rfl)
theorem dX3_read_119 : decode cX3_read 119 = .ok (.iconst 0, 1) := dk_3 (dk_at dksX3_read_5 3 rfl rfl)
theorem dX3_read_120 : decode cX3_read 120 = .ok (.istore 7, 2) := dk_54 7 (dk_at dksX3_read_5 4 rfl rfl)
theorem dX3_read_122 : decode cX3_read 122 = .ok (.iload 7, 2) := dk_21 7 (dk_at dksX3_read_5 6 rfl rfl)
theorem dX3_read_124 : decode cX3_read 124 = .ok (.aload 5, 2) := dk_25 5 (dk_at dksX3_read_5 8 rfl rfl)
theorem dX3_read_126 : decode cX3_read 126 = .ok (.getfield 383, 3) := dk_180 1 127 (dk_at dksX3_read_5 10 rfl rfl)
theorem dX3_read_129 : decode cX3_read 129 = .ok (.invokevirtual 56, 3) := dk_182 0 56 (dk_at dksX3_read_5 13 rfl rfl)
theorem dX3_read_132 : decode cX3_read 132 = .ok (.if_icmp .ge 42, 3) := dk_162 0 42 (dk_at dksX3_read_5 16 rfl rfl)
theorem dX3_read_135 : decode cX3_read 135 = .ok (.aload 5, 2) := dk_25 5 (dk_at dksX3_read_5 19 rfl rfl)
theorem dX3_read_137 : decode cX3_read 137 = .ok (.getfield 383, 3) := dk_180 1 127 (dk_at dksX3_read_5 21 rfl rfl)
theorem dX3_read_140 : decode cX3_read 140 = .ok (.iload 7, 2) := dk_21 7 (dk_at dksX3_read_6 0 rfl rfl)
theorem dX3_read_142 : decode cX3_read 142 = .ok (.invokevirtual 69, 3) := dk_182 0 69 (dk_at dksX3_read_6 2 rfl rfl)
theorem dX3_read_145 : decode cX3_read 145 = .ok (.checkcast 111, 3) := dk_192 0 111 (dk_at dksX3_read_6 5 rfl rfl)
theorem dX3_read_148 : decode cX3_read 148 = .ok (.invokevirtual 113, 3) := dk_182 0 113 (dk_at dksX3_read_6 8 rfl rfl)
theorem dX3_read_151 : decode cX3_read 151 = .ok (.aload 4, 2) := dk_25 4 (dk_at dksX3_read_6 11 rfl rfl)
theorem dX3_read_153 : decode cX3_read 153 = .ok (.getfield 381, 3) := dk_180 1 125 (dk_at dksX3_read_6 13 rfl rfl)
theorem dX3_read_156 : decode cX3_read 156 = .ok (.if_icmp .ne 8, 3) := dk_160 0 8 (dk_at dksX3_read_6 16 rfl rfl)
theorem dX3_read_159 : decode cX3_read 159 = .ok (.iload 7, 2) := dk_21 7 (dk_at dksX3_read_6 19 rfl rfl)
theorem dX3_read_161 : decode cX3_read 161 = .ok (.goto 5, 3) := dk_167 0 5 (dk_at dksX3_read_6 21 rfl rfl)
theorem dX3_read_164 : decode cX3_read 164 = .ok (.iload 6, 2) := dk_21 6 (dk_at dksX3_read_7 0 rfl rfl)
theorem dX3_read_166 : decode cX3_read 166 = .ok (.istore 6, 2) := dk_54 6 (dk_at dksX3_read_7 2 rfl rfl)
theorem dX3_read_168 : decode cX3_read 168 = .ok (.iinc 7 1, 3) := dk_132 7 1 (dk_at dksX3_read_7 4 rfl rfl)
theorem dX3_read_171 : decode cX3_read 171 = .ok (.goto (-49), 3) := dk_167 255 207 (dk_at dksX3_read_7 7 rfl rfl)
theorem dX3_read_174 : decode cX3_read 174 = .ok (.aload_n 0, 1) := dk_42 (dk_at dksX3_read_7 10 rfl rfl)
theorem dX3_read_175 : decode cX3_read 175 = .ok (.aload 4, 2) := dk_25 4 (dk_at dksX3_read_7 11 rfl rfl)
theorem dX3_read_177 : decode cX3_read 177 = .ok (.getfield 381, 3) := dk_180 1 125 (dk_at dksX3_read_7 13 rfl rfl)
theorem dX3_read_180 : decode cX3_read 180 = .ok (.aload 5, 2) := dk_25 5 (dk_at dksX3_read_7 16 rfl rfl)
theorem dX3_read_182 : decode cX3_read 182 = .ok (.getfield 371, 3) := dk_180 1 115 (dk_at dksX3_read_7 18 rfl rfl)
theorem dX3_read_185 : decode cX3_read 185 = .ok (.if_icmp .ge 13, 3) := dk_162 0 13 (dk_at dksX3_read_7 21 rfl rfl)
theorem dX3_read_188 : decode cX3_read 188 = .ok (.iload 6, 2) := dk_21 6 (dk_at dksX3_read_8 0 rfl rfl)
theorem dX3_read_190 : decode cX3_read 190 = .ok (.iconst (-1), 1) := dk_2 (dk_at dksX3_read_8 2 rfl rfl)
theorem dX3_read_191 : decode cX3_read 191 = .ok (.if_icmp .ne 7, 3) := dk_160 0 7 (dk_at dksX3_read_8 3 rfl rfl)
theorem dX3_read_194 : decode cX3_read 194 = .ok (.iconst 3, 1) := dk_6 (dk_at dksX3_read_8 6 rfl rfl)
theorem dX3_read_195 : decode cX3_read 195 = .ok (.goto 4, 3) := dk_167 0 4 (dk_at dksX3_read_8 7 rfl rfl)
theorem dX3_read_198 : decode cX3_read 198 = .ok (.iconst 0, 1) := dk_3 (dk_at dksX3_read_8 10 rfl rfl)
theorem dX3_read_199 : decode cX3_read 199 = .ok (.invokevirtual 230, 3) := dk_182 0 230 (dk_at dksX3_read_8 11 rfl rfl)
theorem dX3_read_202 : decode cX3_read 202 = .ok (.ifCond .eq 5, 3) := dk_153 0 5 (dk_at dksX3_read_8 14 rfl rfl)
theorem dX3_read_205 : decode cX3_read 205 = .ok (.iconst 0, 1) := dk_3 (dk_at dksX3_read_8 17 rfl rfl)
theorem dX3_read_206 : decode cX3_read 206 = .ok (.ireturn, 1) := dk_172 (dk_at dksX3_read_8 18 rfl rfl)
theorem dX3_read_207 : decode cX3_read 207 = .ok (.iload 6, 2) := dk_21 6 (dk_at dksX3_read_8 19 rfl rfl)
theorem dX3_read_209 : decode cX3_read 209 = .ok (.iconst (-1), 1) := dk_2 (dk_at dksX3_read_8 21 rfl rfl)
theorem dX3_read_210 : decode cX3_read 210 = .ok (.if_icmp .eq 25, 3) := dk_159 0 25 (dk_at dksX3_read_9 0 rfl rfl)
theorem dX3_read_213 : decode cX3_read 213 = .ok (.aload 5, 2) := dk_25 5 (dk_at dksX3_read_9 3 rfl rfl)
theorem dX3_read_215 : decode cX3_read 215 = .ok (.getfield 383, 3) := dk_180 1 127 (dk_at dksX3_read_9 5 rfl rfl)
theorem dX3_read_218 : decode cX3_read 218 = .ok (.iload 6, 2) := dk_21 6 (dk_at dksX3_read_9 8 rfl rfl)
theorem dX3_read_220 : decode cX3_read 220 = .ok (.invokevirtual 386, 3) := dk_182 1 130 (dk_at dksX3_read_9 10 rfl rfl)
theorem dX3_read_223 : decode cX3_read 223 = .ok (.pop, 1) := dk_87 (dk_at dksX3_read_9 13 rfl rfl)
theorem dX3_read_224 : decode cX3_read 224 = .ok (.aload 5, 2) := dk_25 5 (dk_at dksX3_read_9 14 rfl rfl)
theorem dX3_read_226 : decode cX3_read 226 = .ok (.getfield 204, 3) := dk_180 0 204 (dk_at dksX3_read_9 16 rfl rfl)
theorem dX3_read_229 : decode cX3_read 229 = .ok (.iload 6, 2) := dk_21 6 (dk_at dksX3_read_9 19 rfl rfl)
theorem dX3_read_231 : decode cX3_read 231 = .ok (.invokevirtual 386, 3) := dk_182 1 130 (dk_at dksX3_read_9 21 rfl rfl)
theorem dX3_read_234 : decode cX3_read 234 = .ok (.pop, 1) := dk_87 (dk_at dksX3_read_10 0 rfl rfl)
theorem dX3_read_235 : decode cX3_read 235 = .ok (.aload 5, 2) := dk_25 5 (dk_at dksX3_read_10 1 rfl rfl)
theorem dX3_read_237 : decode cX3_read 237 = .ok (.getfield 371, 3) := dk_180 1 115 (dk_at dksX3_read_10 3 rfl rfl)
theorem dX3_read_240 : decode cX3_read 240 = .ok (.aload 4, 2) := dk_25 4 (dk_at dksX3_read_10 6 rfl rfl)
theorem dX3_read_242 : decode cX3_read 242 = .ok (.getfield 381, 3) := dk_180 1 125 (dk_at dksX3_read_10 8 rfl rfl)
theorem dX3_read_245 : decode cX3_read 245 = .ok (.if_icmp .gt 88, 3) := dk_163 0 88 (dk_at dksX3_read_10 11 rfl rfl)
theorem dX3_read_248 : decode cX3_read 248 = .ok (.aload 5, 2) := dk_25 5 (dk_at dksX3_read_10 14 rfl rfl)
theorem dX3_read_250 : decode cX3_read 250 = .ok (.getfield 371, 3) := dk_180 1 115 (dk_at dksX3_read_10 16 rfl rfl)
theorem dX3_read_253 : decode cX3_read 253 = .ok (.aload 4, 2) := dk_25 4 (dk_at dksX3_read_10 19 rfl rfl)
theorem dX3_read_255 : decode cX3_read 255 = .ok (.getfield 381, 3) := dk_180 1 125 (dk_at dksX3_read_10 21 rfl rfl)
theorem dX3_read_258 : decode cX3_read 258 = .ok (.if_icmp .ge 44, 3) := dk_162 0 44 (dk_at dksX3_read_11 0 rfl rfl)
theorem dX3_read_261 : decode cX3_read 261 = .ok (.aload 5, 2) := dk_25 5 (dk_at dksX3_read_11 3 rfl rfl)
theorem dX3_read_263 : decode cX3_read 263 = .ok (.getfield 383, 3) := dk_180 1 127 (dk_at dksX3_read_11 5 rfl rfl)
theorem dX3_read_266 : decode cX3_read 266 = .ok (.aload 5, 2) := dk_25 5 (dk_at dksX3_read_11 8 rfl rfl)
theorem dX3_read_268 : decode cX3_read 268 = .ok (.getfield 371, 3) := dk_180 1 115 (dk_at dksX3_read_11 10 rfl rfl)
theorem dX3_read_271 : decode cX3_read 271 = .ok (.invokestatic 135, 3) := dk_184 0 135 (dk_at dksX3_read_11 13 rfl rfl)
theorem dX3_read_274 : decode cX3_read 274 = .ok (.invokevirtual 52, 3) := dk_182 0 52 (dk_at dksX3_read_11 16 rfl rfl)
theorem dX3_read_277 : decode cX3_read 277 = .ok (.pop, 1) := dk_87 (dk_at dksX3_read_11 19 rfl rfl)
theorem dX3_read_278 : decode cX3_read 278 = .ok (.aload 5, 2) := dk_25 5 (dk_at dksX3_read_11 20 rfl rfl)
theorem dX3_read_280 : decode cX3_read 280 = .ok (.getfield 204, 3) := dk_180 0 204 (dk_at dksX3_read_12 0 rfl rfl)
theorem dX3_read_283 : decode cX3_read 283 = .ok (.aload_n 0, 1) := dk_42 (dk_at dksX3_read_12 3 rfl rfl)
theorem dX3_read_284 : decode cX3_read 284 = .ok (.aload 5, 2) := dk_25 5 (dk_at dksX3_read_12 4 rfl rfl)
theorem dX3_read_286 : decode cX3_read 286 = .ok (.getfield 199, 3) := dk_180 0 199 (dk_at dksX3_read_12 6 rfl rfl)
theorem dX3_read_289 : decode cX3_read 289 = .ok (.iconst (-1), 1) := dk_2 (dk_at dksX3_read_12 9 rfl rfl)
theorem dX3_read_290 : decode cX3_read 290 = .ok (.bipush 7, 2) := dk_16 7 (dk_at dksX3_read_12 10 rfl rfl)
theorem dX3_read_292 : decode cX3_read 292 = .ok (.invokevirtual 87, 3) := dk_182 0 87 (dk_at dksX3_read_12 12 rfl rfl)
theorem dX3_read_295 : decode cX3_read 295 = .ok (.invokestatic 135, 3) := dk_184 0 135 (dk_at dksX3_read_12 15 rfl rfl)
theorem dX3_read_298 : decode cX3_read 298 = .ok (.invokevirtual 52, 3) := dk_182 0 52 (dk_at dksX3_read_12 18 rfl rfl)
theorem dX3_read_301 : decode cX3_read 301 = .ok (.pop, 1) := dk_87 (dk_at dksX3_read_12 21 rfl rfl)
theorem dX3_read_302 : decode cX3_read 302 = .ok (.aload 5, 2) := dk_25 5 (dk_at dksX3_read_12 22 rfl rfl)
theorem dX3_read_304 : decode cX3_read 304 = .ok (.aload_n 0, 1) := dk_42 (dk_at dksX3_read_13 0 rfl rfl)
theorem dX3_read_305 : decode cX3_read 305 = .ok (.aload 5, 2) := dk_25 5 (dk_at dksX3_read_13 1 rfl rfl)
theorem dX3_read_307 : decode cX3_read 307 = .ok (.getfield 199, 3) := dk_180 0 199 (dk_at dksX3_read_13 3 rfl rfl)
theorem dX3_read_310 : decode cX3_read 310 = .ok (.iconst (-1), 1) := dk_2 (dk_at dksX3_read_13 6 rfl rfl)
theorem dX3_read_311 : decode cX3_read 311 = .ok (.bipush 8, 2) := dk_16 8 (dk_at dksX3_read_13 7 rfl rfl)
theorem dX3_read_313 : decode cX3_read 313 = .ok (.invokevirtual 87, 3) := dk_182 0 87 (dk_at dksX3_read_13 9 rfl rfl)
theorem dX3_read_316 : decode cX3_read 316 = .ok (.putfield 199, 3) := dk_181 0 199 (dk_at dksX3_read_13 12 rfl rfl)
theorem dX3_read_319 : decode cX3_read 319 = .ok (.aload 5, 2) := dk_25 5 (dk_at dksX3_read_13 15 rfl rfl)
theorem dX3_read_321 : decode cX3_read 321 = .ok (.dup, 1) := dk_89 (dk_at dksX3_read_13 17 rfl rfl)
theorem dX3_read_322 : decode cX3_read 322 = .ok (.getfield 371, 3) := dk_180 1 115 (dk_at dksX3_read_13 18 rfl rfl)
theorem dX3_read_325 : decode cX3_read 325 = .ok (.iconst 1, 1) := dk_4 (dk_at dksX3_read_13 21 rfl rfl)
theorem dX3_read_326 : decode cX3_read 326 = .ok (.iadd, 1) := dk_96 (dk_at dksX3_read_13 22 rfl rfl)
theorem dX3_read_327 : decode cX3_read 327 = .ok (.putfield 371, 3) := dk_181 1 115 (dk_at dksX3_read_14 0 rfl rfl)
theorem dX3_read_330 : decode cX3_read 330 = .ok (.goto (-95), 3) := dk_167 255 161 (dk_at dksX3_read_14 3 rfl rfl)
theorem dX3_read_333 : decode cX3_read 333 = .ok (.aload_n 0, 1) := dk_42 (dk_at dksX3_read_14 6 rfl rfl)
theorem dX3_read_334 : decode cX3_read 334 = .ok (.invokevirtual 244, 3) := dk_182 0 244 (dk_at dksX3_read_14 7 rfl rfl)
theorem dX3_read_337 : decode cX3_read 337 = .ok (.aload_n 0, 1) := dk_42 (dk_at dksX3_read_14 10 rfl rfl)
theorem dX3_read_338 : decode cX3_read 338 = .ok (.getfield 10, 3) := dk_180 0 10 (dk_at dksX3_read_14 11 rfl rfl)
theorem dX3_read_341 : decode cX3_read 341 = .ok (.aload 4, 2) := dk_25 4 (dk_at dksX3_read_14 14 rfl rfl)
theorem dX3_read_343 : decode cX3_read 343 = .ok (.getfield 389, 3) := dk_180 1 133 (dk_at dksX3_read_14 16 rfl rfl)
theorem dX3_read_346 : decode cX3_read 346 = .ok (.invokevirtual 69, 3) := dk_182 0 69 (dk_at dksX3_read_14 19 rfl rfl)
theorem dX3_read_349 : decode cX3_read 349 = .ok (.checkcast 47, 3) := dk_192 0 47 (dk_at dksX3_read_15 0 rfl rfl)
theorem dX3_read_352 : decode cX3_read 352 = .ok (.getfield 82, 3) := dk_180 0 82 (dk_at dksX3_read_15 3 rfl rfl)
theorem dX3_read_355 : decode cX3_read 355 = .ok (.ireturn, 1) := dk_172 (dk_at dksX3_read_15 6 rfl rfl)
abbrev cX3_isMessage : ByteArray := prog_15_method_68_code
def yX3_isMessage : MethodName := ⟨RX3, "isMessage", "(I)Z"⟩
def dkwX3_isMessage_0 : List UInt8 := [27, 3, 42, 180, 0, 31, 182, 0, 56, 4, 100, 184, 0, 222, 172]
abbrev dktX3_isMessage_0 : List UInt8 := dkwX3_isMessage_0 ++ []
theorem dksX3_isMessage_0 : cX3_isMessage.data.toList.drop 0 = dktX3_isMessage_0 := by decide +kernel
theorem dX3_isMessage_0 : decode cX3_isMessage 0 = .ok (.iload_n 1, 1) := dk_27 (dk_at dksX3_isMessage_0 0 rfl rfl)
theorem dX3_isMessage_1 : decode cX3_isMessage 1 = .ok (.iconst 0, 1) := dk_3 (dk_at dksX3_isMessage_0 1 rfl rfl)
theorem dX3_isMessage_2 : decode cX3_isMessage 2 = .ok (.aload_n 0, 1) := dk_42 (dk_at dksX3_isMessage_0 2 rfl rfl)
theorem dX3_isMessage_3 : decode cX3_isMessage 3 = .ok (.getfield 31, 3) := dk_180 0 31 (dk_at dksX3_isMessage_0 3 rfl rfl)
theorem dX3_isMessage_6 : decode cX3_isMessage 6 = .ok (.invokevirtual 56, 3) := dk_182 0 56 (dk_at dksX3_isMessage_0 6 rfl rfl)
theorem dX3_isMessage_9 : decode cX3_isMessage 9 = .ok (.iconst 1, 1) := dk_4 (dk_at dksX3_isMessage_0 9 rfl rfl)
theorem dX3_isMessage_10 : decode cX3_isMessage 10 = .ok (.isub, 1) := dk_100 (dk_at dksX3_isMessage_0 10 rfl rfl)
theorem dX3_isMessage_11 : decode cX3_isMessage 11 = .ok (.invokestatic 222, 3) := dk_184 0 222 (dk_at dksX3_isMessage_0 11 rfl rfl)
theorem dX3_isMessage_14 : decode cX3_isMessage 14 = .ok (.ireturn, 1) := dk_172 (dk_at dksX3_isMessage_0 14 rfl rfl)
abbrev cX3_messageOf : ByteArray := prog_15_method_70_code
def yX3_messageOf : MethodName := ⟨RX3, "messageOf", "(IC)I"⟩
def dkwX3_messageOf_3 : List UInt8 := [167, 0, 7, 45, 180, 1, 125, 172]
abbrev dktX3_messageOf_3 : List UInt8 := dkwX3_messageOf_3 ++ []
def dkwX3_messageOf_2 : List UInt8 := [28, 16, 101, 160, 0, 10, 45, 180, 1, 124, 167, 0, 20, 28, 16, 108, 160, 0, 10, 45, 180, 1, 126]
abbrev dktX3_messageOf_2 : List UInt8 := dkwX3_messageOf_2 ++ dktX3_messageOf_3
def dkwX3_messageOf_1 : List UInt8 := [167, 0, 4, 3, 182, 0, 230, 153, 0, 5, 3, 172, 42, 180, 0, 31, 27, 182, 0, 69, 192, 1, 113, 78]
abbrev dktX3_messageOf_1 : List UInt8 := dkwX3_messageOf_1 ++ dktX3_messageOf_2
def dkwX3_messageOf_0 : List UInt8 := [42, 42, 27, 182, 1, 121, 154, 0, 7, 4, 167, 0, 18, 19, 1, 136, 28, 182, 1, 138, 156, 0, 7, 5]
abbrev dktX3_messageOf_0 : List UInt8 := dkwX3_messageOf_0 ++ dktX3_messageOf_1
theorem dksX3_messageOf_0 : cX3_messageOf.data.toList.drop 0 = dktX3_messageOf_0 := by decide +kernel
theorem dksX3_messageOf_1 : cX3_messageOf.data.toList.drop 24 = dktX3_messageOf_1 := dk_seg dksX3_messageOf_0 24 rfl rfl
theorem dksX3_messageOf_2 : cX3_messageOf.data.toList.drop 48 = dktX3_messageOf_2 := dk_seg dksX3_messageOf_1 24 rfl rfl
theorem dksX3_messageOf_3 : cX3_messageOf.data.toList.drop 71 = dktX3_messageOf_3 := dk_seg dksX3_messageOf_2 23 rfl rfl
theorem dX3_messageOf_0 : decode cX3_messageOf 0 = .ok (.aload_n 0, 1) := dk_42 (dk_at dksX3_messageOf_0 0 rfl rfl)
theorem dX3_messageOf_1 : decode cX3_messageOf 1 = .ok (.aload_n 0, 1) := dk_42 (dk_at dksX3_messageOf_0 1 rfl rfl)
theorem dX3_messageOf_2 : decode cX3_messageOf 2 = .ok (.iload_n 1, 1) := dk_27 (dk_at dksX3_messageOf_0 2 rfl rfl)
theorem dX3_messageOf_3 : decode cX3_messageOf 3 = .ok (.invokevirtual 377, 3) := dk_182 1 121 (dk_at dksX3_messageOf_0 3 rfl rfl)
theorem dX3_messageOf_6 : decode cX3_messageOf 6 = .ok (.ifCond .ne 7, 3) := dk_154 0 7 (dk_at dksX3_messageOf_0 6 rfl rfl)
theorem dX3_messageOf_9 : decode cX3_messageOf 9 = .ok (.iconst 1, 1) := dk_4 (dk_at dksX3_messageOf_0 9 rfl rfl)
theorem dX3_messageOf_10 : decode cX3_messageOf 10 = .ok (.goto 18, 3) := dk_167 0 18 (dk_at dksX3_messageOf_0 10 rfl rfl)
theorem dX3_messageOf_13 : decode cX3_messageOf 13 = .ok (.ldc_w 392, 3) := dk_19 1 136 (dk_at dksX3_messageOf_0 13 rfl rfl)
theorem dX3_messageOf_16 : decode cX3_messageOf 16 = .ok (.iload_n 2, 1) := dk_28 (dk_at dksX3_messageOf_0 16 rfl rfl)
theorem dX3_messageOf_17 : decode cX3_messageOf 17 = .ok (.invokevirtual 394, 3) := dk_182 1 138 (dk_at dksX3_messageOf_0 17 rfl rfl)
theorem dX3_messageOf_20 : decode cX3_messageOf 20 = .ok (.ifCond .ge 7, 3) := dk_156 0 7 (dk_at dksX3_messageOf_0 20 rfl rfl)
theorem dX3_messageOf_23 : decode cX3_messageOf 23 = .ok (.iconst 2, 1) := dk_5 (dk_at dksX3_messageOf_0 23 rfl rfl)
theorem dX3_messageOf_24 : decode cX3_messageOf 24 = .ok (.goto 4, 3) := dk_167 0 4 (dk_at dksX3_messageOf_1 0 rfl rfl)
theorem dX3_messageOf_27 : decode cX3_messageOf 27 = .ok (.iconst 0, 1) := dk_3 (dk_at dksX3_messageOf_1 3 rfl rfl)
theorem dX3_messageOf_28 : decode cX3_messageOf 28 = .ok (.invokevirtual 230, 3) := dk_182 0 230 (dk_at dksX3_messageOf_1 4 rfl rfl)
theorem dX3_messageOf_31 : decode cX3_messageOf 31 = .ok (.ifCond .eq 5, 3) := dk_153 0 5 (dk_at dksX3_messageOf_1 7 rfl rfl)
theorem dX3_messageOf_34 : decode cX3_messageOf 34 = .ok (.iconst 0, 1) := dk_3 (dk_at dksX3_messageOf_1 10 rfl rfl)
theorem dX3_messageOf_35 : decode cX3_messageOf 35 = .ok (.ireturn, 1) := dk_172 (dk_at dksX3_messageOf_1 11 rfl rfl)
theorem dX3_messageOf_36 : decode cX3_messageOf 36 = .ok (.aload_n 0, 1) := dk_42 (dk_at dksX3_messageOf_1 12 rfl rfl)
theorem dX3_messageOf_37 : decode cX3_messageOf 37 = .ok (.getfield 31, 3) := dk_180 0 31 (dk_at dksX3_messageOf_1 13 rfl rfl)
theorem dX3_messageOf_40 : decode cX3_messageOf 40 = .ok (.iload_n 1, 1) := dk_27 (dk_at dksX3_messageOf_1 16 rfl rfl)
theorem dX3_messageOf_41 : decode cX3_messageOf 41 = .ok (.invokevirtual 69, 3) := dk_182 0 69 (dk_at dksX3_messageOf_1 17 rfl rfl)
theorem dX3_messageOf_44 : decode cX3_messageOf 44 = .ok (.checkcast 369, 3) := dk_192 1 113 (dk_at dksX3_messageOf_1 20 rfl rfl)
theorem dX3_messageOf_47 : decode cX3_messageOf 47 = .ok (.astore_n 3, 1) := dk_78 (dk_at dksX3_messageOf_1 23 rfl rfl)
theorem dX3_messageOf_48 : decode cX3_messageOf 48 = .ok (.iload_n 2, 1) := dk_28 (dk_at dksX3_messageOf_2 0 rfl rfl)
theorem dX3_messageOf_49 : decode cX3_messageOf 49 = .ok (.bipush 101, 2) := dk_16 101 (dk_at dksX3_messageOf_2 1 rfl rfl)
theorem dX3_messageOf_51 : decode cX3_messageOf 51 = .ok (.if_icmp .ne 10, 3) := dk_160 0 10 (dk_at dksX3_messageOf_2 3 rfl rfl)
theorem dX3_messageOf_54 : decode cX3_messageOf 54 = .ok (.aload_n 3, 1) := dk_45 (dk_at dksX3_messageOf_2 6 rfl rfl)
theorem dX3_messageOf_55 : decode cX3_messageOf 55 = .ok (.getfield 380, 3) := dk_180 1 124 (dk_at dksX3_messageOf_2 7 rfl rfl)
theorem dX3_messageOf_58 : decode cX3_messageOf 58 = .ok (.goto 20, 3) := dk_167 0 20 (dk_at dksX3_messageOf_2 10 rfl rfl)
theorem dX3_messageOf_61 : decode cX3_messageOf 61 = .ok (.iload_n 2, 1) := dk_28 (dk_at dksX3_messageOf_2 13 rfl rfl)
theorem dX3_messageOf_62 : decode cX3_messageOf 62 = .ok (.bipush 108, 2) := dk_16 108 (dk_at dksX3_messageOf_2 14 rfl rfl)
theorem dX3_messageOf_64 : decode cX3_messageOf 64 = .ok (.if_icmp .ne 10, 3) := dk_160 0 10 (dk_at dksX3_messageOf_2 16 rfl rfl)
theorem dX3_messageOf_67 : decode cX3_messageOf 67 = .ok (.aload_n 3, 1) := dk_45 (dk_at dksX3_messageOf_2 19 rfl rfl)
theorem dX3_messageOf_68 : decode cX3_messageOf 68 = .ok (.getfield 382, 3) := dk_180 1 126 (dk_at dksX3_messageOf_2 20 rfl rfl)
theorem dX3_messageOf_71 : decode cX3_messageOf 71 = .ok (.goto 7, 3) := dk_167 0 7 (dk_at dksX3_messageOf_3 0 rfl rfl)
theorem dX3_messageOf_74 : decode cX3_messageOf 74 = .ok (.aload_n 3, 1) := dk_45 (dk_at dksX3_messageOf_3 3 rfl rfl)
theorem dX3_messageOf_75 : decode cX3_messageOf 75 = .ok (.getfield 381, 3) := dk_180 1 125 (dk_at dksX3_messageOf_3 4 rfl rfl)
theorem dX3_messageOf_78 : decode cX3_messageOf 78 = .ok (.ireturn, 1) := dk_172 (dk_at dksX3_messageOf_3 7 rfl rfl)
abbrev cX3_steal : ByteArray := prog_15_method_71_code
def yX3_steal : MethodName := ⟨RX3, "steal", "(I)I"⟩
def dkwX3_steal_3 : List UInt8 := [167, 0, 4, 4, 96, 62, 42, 180, 0, 34, 21, 5, 184, 0, 171, 167, 255, 207, 29, 172]
abbrev dktX3_steal_3 : List UInt8 := dkwX3_steal_3 ++ []
def dkwX3_steal_2 : List UInt8 := [185, 0, 107, 1, 0, 192, 0, 111, 182, 0, 113, 54, 5, 29, 44, 21, 5, 51, 153, 0, 7, 3]
abbrev dktX3_steal_2 : List UInt8 := dkwX3_steal_2 ++ dktX3_steal_3
def dkwX3_steal_1 : List UInt8 := [182, 0, 207, 182, 0, 97, 58, 4, 25, 4, 185, 0, 101, 1, 0, 153, 0, 45, 25, 4]
abbrev dktX3_steal_1 : List UInt8 := dkwX3_steal_1 ++ dktX3_steal_2
def dkwX3_steal_0 : List UInt8 := [42, 27, 182, 1, 104, 153, 0, 5, 3, 172, 42, 42, 180, 0, 34, 182, 1, 143, 77, 3, 62, 42, 27]
abbrev dktX3_steal_0 : List UInt8 := dkwX3_steal_0 ++ dktX3_steal_1
theorem dksX3_steal_0 : cX3_steal.data.toList.drop 0 = dktX3_steal_0 := by decide +kernel
theorem dksX3_steal_1 : cX3_steal.data.toList.drop 23 = dktX3_steal_1 := dk_seg dksX3_steal_0 23 rfl rfl
theorem dksX3_steal_2 : cX3_steal.data.toList.drop 43 = dktX3_steal_2 := dk_seg dksX3_steal_1 20 rfl rfl
theorem dksX3_steal_3 : cX3_steal.data.toList.drop 65 = dktX3_steal_3 := dk_seg dksX3_steal_2 22 rfl rfl
theorem dX3_steal_0 : decode cX3_steal 0 = .ok (.aload_n 0, 1) := dk_42 (dk_at dksX3_steal_0 0 rfl rfl)
theorem dX3_steal_1 : decode cX3_steal 1 = .ok (.iload_n 1, 1) := dk_27 (dk_at dksX3_steal_0 1 rfl rfl)
theorem dX3_steal_2 : decode cX3_steal 2 = .ok (.invokevirtual 360, 3) := dk_182 1 104 (dk_at dksX3_steal_0 2 rfl rfl)
theorem dX3_steal_5 : decode cX3_steal 5 = .ok (.ifCond .eq 5, 3) := dk_153 0 5 (dk_at dksX3_steal_0 5 rfl rfl)
theorem dX3_steal_8 : decode cX3_steal 8 = .ok (.iconst 0, 1) := dk_3 (dk_at dksX3_steal_0 8 rfl rfl)
theorem dX3_steal_9 : decode cX3_steal 9 = .ok (.ireturn, 1) := dk_172 (dk_at dksX3_steal_0 9 rfl rfl)
theorem dX3_steal_10 : decode cX3_steal 10 = .ok (.aload_n 0, 1) := dk_42 (dk_at dksX3_steal_0 10 rfl rfl)
theorem dX3_steal_11 : decode cX3_steal 11 = .ok (.aload_n 0, 1) := dk_42 (dk_at dksX3_steal_0 11 rfl rfl)
theorem dX3_steal_12 : decode cX3_steal 12 = .ok (.getfield 34, 3) := dk_180 0 34 (dk_at dksX3_steal_0 12 rfl rfl)
theorem dX3_steal_15 : decode cX3_steal 15 = .ok (.invokevirtual 399, 3) := dk_182 1 143 (dk_at dksX3_steal_0 15 rfl rfl)
theorem dX3_steal_18 : decode cX3_steal 18 = .ok (.astore_n 2, 1) := dk_77 (dk_at dksX3_steal_0 18 rfl rfl)
theorem dX3_steal_19 : decode cX3_steal 19 = .ok (.iconst 0, 1) := dk_3 (dk_at dksX3_steal_0 19 rfl rfl)
theorem dX3_steal_20 : decode cX3_steal 20 = .ok (.istore_n 3, 1) := dk_62 (dk_at dksX3_steal_0 20 rfl rfl)
theorem dX3_steal_21 : decode cX3_steal 21 = .ok (.aload_n 0, 1) := dk_42 (dk_at dksX3_steal_0 21 rfl rfl)
theorem dX3_steal_22 : decode cX3_steal 22 = .ok (.iload_n 1, 1) := dk_27 (dk_at dksX3_steal_0 22 rfl rfl)
theorem dX3_steal_23 : decode cX3_steal 23 = .ok (.invokevirtual 207, 3) := dk_182 0 207 (dk_at dksX3_steal_1 0 rfl rfl)
theorem dX3_steal_26 : decode cX3_steal 26 = .ok (.invokevirtual 97, 3) := dk_182 0 97 (dk_at dksX3_steal_1 3 rfl rfl)
theorem dX3_steal_29 : decode cX3_steal 29 = .ok (.astore 4, 2) := dk_58 4 (dk_at dksX3_steal_1 6 rfl rfl)
theorem dX3_steal_31 : decode cX3_steal 31 = .ok (.aload 4, 2) := dk_25 4 (dk_at dksX3_steal_1 8 rfl rfl)
theorem dX3_steal_33 : decode cX3_steal 33 = .ok (.invokeinterface 101 1, 5) := by decide +kernel
theorem dX3_steal_38 : decode cX3_steal 38 = .ok (.ifCond .eq 45, 3) := dk_153 0 45 (dk_at dksX3_steal_1 15 rfl rfl)
theorem dX3_steal_41 : decode cX3_steal 41 = .ok (.aload 4, 2) := dk_25 4 (dk_at dksX3_steal_1 18 rfl rfl)
theorem dX3_steal_43 : decode cX3_steal 43 = .ok (.invokeinterface 107 1, 5) := by decide +kernel
theorem dX3_steal_48 : decode cX3_steal 48 = .ok (.checkcast 111, 3) := dk_192 0 111 (dk_at dksX3_steal_2 5 rfl rfl)
theorem dX3_steal_51 : decode cX3_steal 51 = .ok (.invokevirtual 113, 3) := dk_182 0 113 (dk_at dksX3_steal_2 8 rfl rfl)
theorem dX3_steal_54 : decode cX3_steal 54 = .ok (.istore 5, 2) := dk_54 5 (dk_at dksX3_steal_2 11 rfl rfl)
theorem dX3_steal_56 : decode cX3_steal 56 = .ok (.iload_n 3, 1) := dk_29 (dk_at dksX3_steal_2 13 rfl rfl)
theorem dX3_steal_57 : decode cX3_steal 57 = .ok (.aload_n 2, 1) := dk_44 (dk_at dksX3_steal_2 14 rfl rfl)
theorem dX3_steal_58 : decode cX3_steal 58 = .ok (.iload 5, 2) := dk_21 5 (dk_at dksX3_steal_2 15 rfl rfl)
theorem dX3_steal_60 : decode cX3_steal 60 = .ok (.baload, 1) := dk_51 (dk_at dksX3_steal_2 17 rfl rfl)
theorem dX3_steal_61 : decode cX3_steal 61 = .ok (.ifCond .eq 7, 3) := dk_153 0 7 (dk_at dksX3_steal_2 18 rfl rfl)
theorem dX3_steal_64 : decode cX3_steal 64 = .ok (.iconst 0, 1) := dk_3 (dk_at dksX3_steal_2 21 rfl rfl)
theorem dX3_steal_65 : decode cX3_steal 65 = .ok (.goto 4, 3) := dk_167 0 4 (dk_at dksX3_steal_3 0 rfl rfl)
theorem dX3_steal_68 : decode cX3_steal 68 = .ok (.iconst 1, 1) := dk_4 (dk_at dksX3_steal_3 3 rfl rfl)
theorem dX3_steal_69 : decode cX3_steal 69 = .ok (.iadd, 1) := dk_96 (dk_at dksX3_steal_3 4 rfl rfl)
theorem dX3_steal_70 : decode cX3_steal 70 = .ok (.istore_n 3, 1) := dk_62 (dk_at dksX3_steal_3 5 rfl rfl)
theorem dX3_steal_71 : decode cX3_steal 71 = .ok (.aload_n 0, 1) := dk_42 (dk_at dksX3_steal_3 6 rfl rfl)
theorem dX3_steal_72 : decode cX3_steal 72 = .ok (.getfield 34, 3) := dk_180 0 34 (dk_at dksX3_steal_3 7 rfl rfl)
theorem dX3_steal_75 : decode cX3_steal 75 = .ok (.iload 5, 2) := dk_21 5 (dk_at dksX3_steal_3 10 rfl rfl)
theorem dX3_steal_77 : decode cX3_steal 77 = .ok (.invokestatic 171, 3) := dk_184 0 171 (dk_at dksX3_steal_3 12 rfl rfl)
theorem dX3_steal_80 : decode cX3_steal 80 = .ok (.goto (-49), 3) := dk_167 255 207 (dk_at dksX3_steal_3 15 rfl rfl)
theorem dX3_steal_83 : decode cX3_steal 83 = .ok (.iload_n 3, 1) := dk_29 (dk_at dksX3_steal_3 18 rfl rfl)
theorem dX3_steal_84 : decode cX3_steal 84 = .ok (.ireturn, 1) := dk_172 (dk_at dksX3_steal_3 19 rfl rfl)
abbrev cX3_all : ByteArray := prog_15_method_10_code
def yX3_all : MethodName := ⟨RX3, "all", "(Ljava/util/ArrayList;)[Z"⟩
def dkwX3_all_10 : List UInt8 := [167, 255, 189, 167, 255, 67, 44, 176]
abbrev dktX3_all_10 : List UInt8 := dkwX3_all_10 ++ []
def dkwX3_all_9 : List UInt8 := [167, 0, 4, 3, 128, 62, 44, 25, 5, 180, 0, 119, 92, 51, 44, 25, 5, 180, 0, 116, 51, 128, 84]
abbrev dktX3_all_9 : List UInt8 := dkwX3_all_9 ++ dktX3_all_10
def dkwX3_all_8 : List UInt8 := [29, 44, 25, 5, 180, 0, 116, 51, 153, 0, 17, 44, 25, 5, 180, 0, 119, 51, 154, 0, 7, 4]
abbrev dktX3_all_8 : List UInt8 := dkwX3_all_8 ++ dktX3_all_9
def dkwX3_all_7 : List UInt8 := [58, 4, 25, 4, 185, 0, 101, 1, 0, 153, 0, 63, 25, 4, 185, 0, 107, 1, 0, 192, 0, 85, 58, 5]
abbrev dktX3_all_7 : List UInt8 := dkwX3_all_7 ++ dktX3_all_8
def dkwX3_all_6 : List UInt8 := [128, 62, 44, 21, 4, 92, 51, 21, 6, 128, 84, 132, 4, 1, 167, 255, 158, 42, 180, 0, 16, 182, 0, 97]
abbrev dktX3_all_6 : List UInt8 := dkwX3_all_6 ++ dktX3_all_7
def dkwX3_all_5 : List UInt8 := [167, 0, 4, 3, 54, 6, 29, 21, 6, 153, 0, 14, 44, 21, 4, 51, 154, 0, 7, 4, 167, 0, 4, 3]
abbrev dktX3_all_5 : List UInt8 := dkwX3_all_5 ++ dktX3_all_6
def dkwX3_all_4 : List UInt8 := [153, 0, 26, 25, 5, 180, 0, 76, 2, 159, 0, 13, 44, 25, 5, 180, 0, 76, 51, 153, 0, 7, 4]
abbrev dktX3_all_4 : List UInt8 := dkwX3_all_4 ++ dktX3_all_5
def dkwX3_all_3 : List UInt8 := [182, 0, 69, 192, 0, 47, 58, 5, 25, 5, 180, 0, 73, 2, 159, 0, 36, 44, 25, 5, 180, 0, 73, 51]
abbrev dktX3_all_3 : List UInt8 := dkwX3_all_3 ++ dktX3_all_4
def dkwX3_all_2 : List UInt8 := [29, 153, 0, 191, 3, 62, 3, 54, 4, 21, 4, 44, 190, 162, 0, 97, 42, 180, 0, 10, 21, 4]
abbrev dktX3_all_2 : List UInt8 := dkwX3_all_2 ++ dktX3_all_3
def dkwX3_all_1 : List UInt8 := [45, 185, 0, 107, 1, 0, 192, 0, 111, 182, 0, 113, 54, 4, 44, 21, 4, 4, 84, 167, 255, 228, 4, 62]
abbrev dktX3_all_1 : List UInt8 := dkwX3_all_1 ++ dktX3_all_2
def dkwX3_all_0 : List UInt8 := [42, 180, 0, 10, 182, 0, 56, 188, 4, 77, 43, 182, 0, 97, 78, 45, 185, 0, 101, 1, 0, 153, 0, 25]
abbrev dktX3_all_0 : List UInt8 := dkwX3_all_0 ++ dktX3_all_1
theorem dksX3_all_0 : cX3_all.data.toList.drop 0 = dktX3_all_0 := by decide +kernel
theorem dksX3_all_1 : cX3_all.data.toList.drop 24 = dktX3_all_1 := dk_seg dksX3_all_0 24 rfl rfl
theorem dksX3_all_2 : cX3_all.data.toList.drop 48 = dktX3_all_2 := dk_seg dksX3_all_1 24 rfl rfl
theorem dksX3_all_3 : cX3_all.data.toList.drop 70 = dktX3_all_3 := dk_seg dksX3_all_2 22 rfl rfl
theorem dksX3_all_4 : cX3_all.data.toList.drop 94 = dktX3_all_4 := dk_seg dksX3_all_3 24 rfl rfl
theorem dksX3_all_5 : cX3_all.data.toList.drop 117 = dktX3_all_5 := dk_seg dksX3_all_4 23 rfl rfl
theorem dksX3_all_6 : cX3_all.data.toList.drop 141 = dktX3_all_6 := dk_seg dksX3_all_5 24 rfl rfl
theorem dksX3_all_7 : cX3_all.data.toList.drop 165 = dktX3_all_7 := dk_seg dksX3_all_6 24 rfl rfl
theorem dksX3_all_8 : cX3_all.data.toList.drop 189 = dktX3_all_8 := dk_seg dksX3_all_7 24 rfl rfl
theorem dksX3_all_9 : cX3_all.data.toList.drop 211 = dktX3_all_9 := dk_seg dksX3_all_8 22 rfl rfl
theorem dksX3_all_10 : cX3_all.data.toList.drop 234 = dktX3_all_10 := dk_seg dksX3_all_9 23 rfl rfl
theorem dX3_all_0 : decode cX3_all 0 = .ok (.aload_n 0, 1) := dk_42 (dk_at dksX3_all_0 0 rfl rfl)
theorem dX3_all_1 : decode cX3_all 1 = .ok (.getfield 10, 3) := dk_180 0 10 (dk_at dksX3_all_0 1 rfl rfl)
theorem dX3_all_4 : decode cX3_all 4 = .ok (.invokevirtual 56, 3) := dk_182 0 56 (dk_at dksX3_all_0 4 rfl rfl)
theorem dX3_all_7 : decode cX3_all 7 = .ok (.newarray .boolean, 2) := dk_188_4 (dk_at dksX3_all_0 7 rfl rfl)
theorem dX3_all_9 : decode cX3_all 9 = .ok (.astore_n 2, 1) := dk_77 (dk_at dksX3_all_0 9 rfl rfl)
theorem dX3_all_10 : decode cX3_all 10 = .ok (.aload_n 1, 1) := dk_43 (dk_at dksX3_all_0 10 rfl rfl)
theorem dX3_all_11 : decode cX3_all 11 = .ok (.invokevirtual 97, 3) := dk_182 0 97 (dk_at dksX3_all_0 11 rfl rfl)
theorem dX3_all_14 : decode cX3_all 14 = .ok (.astore_n 3, 1) := dk_78 (dk_at dksX3_all_0 14 rfl rfl)
theorem dX3_all_15 : decode cX3_all 15 = .ok (.aload_n 3, 1) := dk_45 (dk_at dksX3_all_0 15 rfl rfl)
theorem dX3_all_16 : decode cX3_all 16 = .ok (.invokeinterface 101 1, 5) := by decide +kernel
theorem dX3_all_21 : decode cX3_all 21 = .ok (.ifCond .eq 25, 3) := dk_153 0 25 (dk_at dksX3_all_0 21 rfl rfl)
theorem dX3_all_24 : decode cX3_all 24 = .ok (.aload_n 3, 1) := dk_45 (dk_at dksX3_all_1 0 rfl rfl)
theorem dX3_all_25 : decode cX3_all 25 = .ok (.invokeinterface 107 1, 5) := by decide +kernel
theorem dX3_all_30 : decode cX3_all 30 = .ok (.checkcast 111, 3) := dk_192 0 111 (dk_at dksX3_all_1 6 rfl rfl)
theorem dX3_all_33 : decode cX3_all 33 = .ok (.invokevirtual 113, 3) := dk_182 0 113 (dk_at dksX3_all_1 9 rfl rfl)
theorem dX3_all_36 : decode cX3_all 36 = .ok (.istore 4, 2) := dk_54 4 (dk_at dksX3_all_1 12 rfl rfl)
theorem dX3_all_38 : decode cX3_all 38 = .ok (.aload_n 2, 1) := dk_44 (dk_at dksX3_all_1 14 rfl rfl)
theorem dX3_all_39 : decode cX3_all 39 = .ok (.iload 4, 2) := dk_21 4 (dk_at dksX3_all_1 15 rfl rfl)
theorem dX3_all_41 : decode cX3_all 41 = .ok (.iconst 1, 1) := dk_4 (dk_at dksX3_all_1 17 rfl rfl)
theorem dX3_all_42 : decode cX3_all 42 = .ok (.bastore, 1) := dk_84 (dk_at dksX3_all_1 18 rfl rfl)
theorem dX3_all_43 : decode cX3_all 43 = .ok (.goto (-28), 3) := dk_167 255 228 (dk_at dksX3_all_1 19 rfl rfl)
theorem dX3_all_46 : decode cX3_all 46 = .ok (.iconst 1, 1) := dk_4 (dk_at dksX3_all_1 22 rfl rfl)
theorem dX3_all_47 : decode cX3_all 47 = .ok (.istore_n 3, 1) := dk_62 (dk_at dksX3_all_1 23 rfl rfl)
theorem dX3_all_48 : decode cX3_all 48 = .ok (.iload_n 3, 1) := dk_29 (dk_at dksX3_all_2 0 rfl rfl)
theorem dX3_all_49 : decode cX3_all 49 = .ok (.ifCond .eq 191, 3) := dk_153 0 191 (dk_at dksX3_all_2 1 rfl rfl)
theorem dX3_all_52 : decode cX3_all 52 = .ok (.iconst 0, 1) := dk_3 (dk_at dksX3_all_2 4 rfl rfl)
theorem dX3_all_53 : decode cX3_all 53 = .ok (.istore_n 3, 1) := dk_62 (dk_at dksX3_all_2 5 rfl rfl)
theorem dX3_all_54 : decode cX3_all 54 = .ok (.iconst 0, 1) := dk_3 (dk_at dksX3_all_2 6 rfl rfl)
theorem dX3_all_55 : decode cX3_all 55 = .ok (.istore 4, 2) := dk_54 4 (dk_at dksX3_all_2 7 rfl rfl)
theorem dX3_all_57 : decode cX3_all 57 = .ok (.iload 4, 2) := dk_21 4 (dk_at dksX3_all_2 9 rfl rfl)
theorem dX3_all_59 : decode cX3_all 59 = .ok (.aload_n 2, 1) := dk_44 (dk_at dksX3_all_2 11 rfl rfl)
theorem dX3_all_60 : decode cX3_all 60 = .ok (.arraylength, 1) := dk_190 (dk_at dksX3_all_2 12 rfl rfl)
theorem dX3_all_61 : decode cX3_all 61 = .ok (.if_icmp .ge 97, 3) := dk_162 0 97 (dk_at dksX3_all_2 13 rfl rfl)
theorem dX3_all_64 : decode cX3_all 64 = .ok (.aload_n 0, 1) := dk_42 (dk_at dksX3_all_2 16 rfl rfl)
theorem dX3_all_65 : decode cX3_all 65 = .ok (.getfield 10, 3) := dk_180 0 10 (dk_at dksX3_all_2 17 rfl rfl)
theorem dX3_all_68 : decode cX3_all 68 = .ok (.iload 4, 2) := dk_21 4 (dk_at dksX3_all_2 20 rfl rfl)
theorem dX3_all_70 : decode cX3_all 70 = .ok (.invokevirtual 69, 3) := dk_182 0 69 (dk_at dksX3_all_3 0 rfl rfl)
theorem dX3_all_73 : decode cX3_all 73 = .ok (.checkcast 47, 3) := dk_192 0 47 (dk_at dksX3_all_3 3 rfl rfl)
theorem dX3_all_76 : decode cX3_all 76 = .ok (.astore 5, 2) := dk_58 5 (dk_at dksX3_all_3 6 rfl rfl)
theorem dX3_all_78 : decode cX3_all 78 = .ok (.aload 5, 2) := dk_25 5 (dk_at dksX3_all_3 8 rfl rfl)
theorem dX3_all_80 : decode cX3_all 80 = .ok (.getfield 73, 3) := dk_180 0 73 (dk_at dksX3_all_3 10 rfl rfl)
theorem dX3_all_83 : decode cX3_all 83 = .ok (.iconst (-1), 1) := dk_2 (dk_at dksX3_all_3 13 rfl rfl)
theorem dX3_all_84 : decode cX3_all 84 = .ok (.if_icmp .eq 36, 3) := dk_159 0 36 (dk_at dksX3_all_3 14 rfl rfl)
theorem dX3_all_87 : decode cX3_all 87 = .ok (.aload_n 2, 1) := dk_44 (dk_at dksX3_all_3 17 rfl rfl)
theorem dX3_all_88 : decode cX3_all 88 = .ok (.aload 5, 2) := dk_25 5 (dk_at dksX3_all_3 18 rfl rfl)
theorem dX3_all_90 : decode cX3_all 90 = .ok (.getfield 73, 3) := dk_180 0 73 (dk_at dksX3_all_3 20 rfl rfl)
theorem dX3_all_93 : decode cX3_all 93 = .ok (.baload, 1) := dk_51 (dk_at dksX3_all_3 23 rfl rfl)
theorem dX3_all_94 : decode cX3_all 94 = .ok (.ifCond .eq 26, 3) := dk_153 0 26 (dk_at dksX3_all_4 0 rfl rfl)
theorem dX3_all_97 : decode cX3_all 97 = .ok (.aload 5, 2) := dk_25 5 (dk_at dksX3_all_4 3 rfl rfl)
theorem dX3_all_99 : decode cX3_all 99 = .ok (.getfield 76, 3) := dk_180 0 76 (dk_at dksX3_all_4 5 rfl rfl)
theorem dX3_all_102 : decode cX3_all 102 = .ok (.iconst (-1), 1) := dk_2 (dk_at dksX3_all_4 8 rfl rfl)
theorem dX3_all_103 : decode cX3_all 103 = .ok (.if_icmp .eq 13, 3) := dk_159 0 13 (dk_at dksX3_all_4 9 rfl rfl)
theorem dX3_all_106 : decode cX3_all 106 = .ok (.aload_n 2, 1) := dk_44 (dk_at dksX3_all_4 12 rfl rfl)
theorem dX3_all_107 : decode cX3_all 107 = .ok (.aload 5, 2) := dk_25 5 (dk_at dksX3_all_4 13 rfl rfl)
theorem dX3_all_109 : decode cX3_all 109 = .ok (.getfield 76, 3) := dk_180 0 76 (dk_at dksX3_all_4 15 rfl rfl)
theorem dX3_all_112 : decode cX3_all 112 = .ok (.baload, 1) := dk_51 (dk_at dksX3_all_4 18 rfl rfl)
theorem dX3_all_113 : decode cX3_all 113 = .ok (.ifCond .eq 7, 3) := dk_153 0 7 (dk_at dksX3_all_4 19 rfl rfl)
theorem dX3_all_116 : decode cX3_all 116 = .ok (.iconst 1, 1) := dk_4 (dk_at dksX3_all_4 22 rfl rfl)
theorem dX3_all_117 : decode cX3_all 117 = .ok (.goto 4, 3) := dk_167 0 4 (dk_at dksX3_all_5 0 rfl rfl)
theorem dX3_all_120 : decode cX3_all 120 = .ok (.iconst 0, 1) := dk_3 (dk_at dksX3_all_5 3 rfl rfl)
theorem dX3_all_121 : decode cX3_all 121 = .ok (.istore 6, 2) := dk_54 6 (dk_at dksX3_all_5 4 rfl rfl)
theorem dX3_all_123 : decode cX3_all 123 = .ok (.iload_n 3, 1) := dk_29 (dk_at dksX3_all_5 6 rfl rfl)
theorem dX3_all_124 : decode cX3_all 124 = .ok (.iload 6, 2) := dk_21 6 (dk_at dksX3_all_5 7 rfl rfl)
theorem dX3_all_126 : decode cX3_all 126 = .ok (.ifCond .eq 14, 3) := dk_153 0 14 (dk_at dksX3_all_5 9 rfl rfl)
theorem dX3_all_129 : decode cX3_all 129 = .ok (.aload_n 2, 1) := dk_44 (dk_at dksX3_all_5 12 rfl rfl)
theorem dX3_all_130 : decode cX3_all 130 = .ok (.iload 4, 2) := dk_21 4 (dk_at dksX3_all_5 13 rfl rfl)
theorem dX3_all_132 : decode cX3_all 132 = .ok (.baload, 1) := dk_51 (dk_at dksX3_all_5 15 rfl rfl)
theorem dX3_all_133 : decode cX3_all 133 = .ok (.ifCond .ne 7, 3) := dk_154 0 7 (dk_at dksX3_all_5 16 rfl rfl)
theorem dX3_all_136 : decode cX3_all 136 = .ok (.iconst 1, 1) := dk_4 (dk_at dksX3_all_5 19 rfl rfl)
theorem dX3_all_137 : decode cX3_all 137 = .ok (.goto 4, 3) := dk_167 0 4 (dk_at dksX3_all_5 20 rfl rfl)
theorem dX3_all_140 : decode cX3_all 140 = .ok (.iconst 0, 1) := dk_3 (dk_at dksX3_all_5 23 rfl rfl)
theorem dX3_all_141 : decode cX3_all 141 = .ok (.ior, 1) := dk_128 (dk_at dksX3_all_6 0 rfl rfl)
theorem dX3_all_142 : decode cX3_all 142 = .ok (.istore_n 3, 1) := dk_62 (dk_at dksX3_all_6 1 rfl rfl)
theorem dX3_all_143 : decode cX3_all 143 = .ok (.aload_n 2, 1) := dk_44 (dk_at dksX3_all_6 2 rfl rfl)
theorem dX3_all_144 : decode cX3_all 144 = .ok (.iload 4, 2) := dk_21 4 (dk_at dksX3_all_6 3 rfl rfl)
theorem dX3_all_146 : decode cX3_all 146 = .ok (.dup2, 1) := dk_92 (dk_at dksX3_all_6 5 rfl rfl)
theorem dX3_all_147 : decode cX3_all 147 = .ok (.baload, 1) := dk_51 (dk_at dksX3_all_6 6 rfl rfl)
theorem dX3_all_148 : decode cX3_all 148 = .ok (.iload 6, 2) := dk_21 6 (dk_at dksX3_all_6 7 rfl rfl)
theorem dX3_all_150 : decode cX3_all 150 = .ok (.ior, 1) := dk_128 (dk_at dksX3_all_6 9 rfl rfl)
theorem dX3_all_151 : decode cX3_all 151 = .ok (.bastore, 1) := dk_84 (dk_at dksX3_all_6 10 rfl rfl)
theorem dX3_all_152 : decode cX3_all 152 = .ok (.iinc 4 1, 3) := dk_132 4 1 (dk_at dksX3_all_6 11 rfl rfl)
theorem dX3_all_155 : decode cX3_all 155 = .ok (.goto (-98), 3) := dk_167 255 158 (dk_at dksX3_all_6 14 rfl rfl)
theorem dX3_all_158 : decode cX3_all 158 = .ok (.aload_n 0, 1) := dk_42 (dk_at dksX3_all_6 17 rfl rfl)
theorem dX3_all_159 : decode cX3_all 159 = .ok (.getfield 16, 3) := dk_180 0 16 (dk_at dksX3_all_6 18 rfl rfl)
theorem dX3_all_162 : decode cX3_all 162 = .ok (.invokevirtual 97, 3) := dk_182 0 97 (dk_at dksX3_all_6 21 rfl rfl)
theorem dX3_all_165 : decode cX3_all 165 = .ok (.astore 4, 2) := dk_58 4 (dk_at dksX3_all_7 0 rfl rfl)
theorem dX3_all_167 : decode cX3_all 167 = .ok (.aload 4, 2) := dk_25 4 (dk_at dksX3_all_7 2 rfl rfl)
theorem dX3_all_169 : decode cX3_all 169 = .ok (.invokeinterface 101 1, 5) := by decide +kernel
theorem dX3_all_174 : decode cX3_all 174 = .ok (.ifCond .eq 63, 3) := dk_153 0 63 (dk_at dksX3_all_7 9 rfl rfl)
theorem dX3_all_177 : decode cX3_all 177 = .ok (.aload 4, 2) := dk_25 4 (dk_at dksX3_all_7 12 rfl rfl)
theorem dX3_all_179 : decode cX3_all 179 = .ok (.invokeinterface 107 1, 5) := by decide +kernel
theorem dX3_all_184 : decode cX3_all 184 = .ok (.checkcast 85, 3) := dk_192 0 85 (dk_at dksX3_all_7 19 rfl rfl)
theorem dX3_all_187 : decode cX3_all 187 = .ok (.astore 5, 2) := dk_58 5 (dk_at dksX3_all_7 22 rfl rfl)
theorem dX3_all_189 : decode cX3_all 189 = .ok (.iload_n 3, 1) := dk_29 (dk_at dksX3_all_8 0 rfl rfl)
theorem dX3_all_190 : decode cX3_all 190 = .ok (.aload_n 2, 1) := dk_44 (dk_at dksX3_all_8 1 rfl rfl)
theorem dX3_all_191 : decode cX3_all 191 = .ok (.aload 5, 2) := dk_25 5 (dk_at dksX3_all_8 2 rfl rfl)
theorem dX3_all_193 : decode cX3_all 193 = .ok (.getfield 116, 3) := dk_180 0 116 (dk_at dksX3_all_8 4 rfl rfl)
theorem dX3_all_196 : decode cX3_all 196 = .ok (.baload, 1) := dk_51 (dk_at dksX3_all_8 7 rfl rfl)
theorem dX3_all_197 : decode cX3_all 197 = .ok (.ifCond .eq 17, 3) := dk_153 0 17 (dk_at dksX3_all_8 8 rfl rfl)
theorem dX3_all_200 : decode cX3_all 200 = .ok (.aload_n 2, 1) := dk_44 (dk_at dksX3_all_8 11 rfl rfl)
theorem dX3_all_201 : decode cX3_all 201 = .ok (.aload 5, 2) := dk_25 5 (dk_at dksX3_all_8 12 rfl rfl)
theorem dX3_all_203 : decode cX3_all 203 = .ok (.getfield 119, 3) := dk_180 0 119 (dk_at dksX3_all_8 14 rfl rfl)
theorem dX3_all_206 : decode cX3_all 206 = .ok (.baload, 1) := dk_51 (dk_at dksX3_all_8 17 rfl rfl)
theorem dX3_all_207 : decode cX3_all 207 = .ok (.ifCond .ne 7, 3) := dk_154 0 7 (dk_at dksX3_all_8 18 rfl rfl)
theorem dX3_all_210 : decode cX3_all 210 = .ok (.iconst 1, 1) := dk_4 (dk_at dksX3_all_8 21 rfl rfl)
theorem dX3_all_211 : decode cX3_all 211 = .ok (.goto 4, 3) := dk_167 0 4 (dk_at dksX3_all_9 0 rfl rfl)
theorem dX3_all_214 : decode cX3_all 214 = .ok (.iconst 0, 1) := dk_3 (dk_at dksX3_all_9 3 rfl rfl)
theorem dX3_all_215 : decode cX3_all 215 = .ok (.ior, 1) := dk_128 (dk_at dksX3_all_9 4 rfl rfl)
theorem dX3_all_216 : decode cX3_all 216 = .ok (.istore_n 3, 1) := dk_62 (dk_at dksX3_all_9 5 rfl rfl)
theorem dX3_all_217 : decode cX3_all 217 = .ok (.aload_n 2, 1) := dk_44 (dk_at dksX3_all_9 6 rfl rfl)
theorem dX3_all_218 : decode cX3_all 218 = .ok (.aload 5, 2) := dk_25 5 (dk_at dksX3_all_9 7 rfl rfl)
theorem dX3_all_220 : decode cX3_all 220 = .ok (.getfield 119, 3) := dk_180 0 119 (dk_at dksX3_all_9 9 rfl rfl)
theorem dX3_all_223 : decode cX3_all 223 = .ok (.dup2, 1) := dk_92 (dk_at dksX3_all_9 12 rfl rfl)
theorem dX3_all_224 : decode cX3_all 224 = .ok (.baload, 1) := dk_51 (dk_at dksX3_all_9 13 rfl rfl)
theorem dX3_all_225 : decode cX3_all 225 = .ok (.aload_n 2, 1) := dk_44 (dk_at dksX3_all_9 14 rfl rfl)
theorem dX3_all_226 : decode cX3_all 226 = .ok (.aload 5, 2) := dk_25 5 (dk_at dksX3_all_9 15 rfl rfl)
theorem dX3_all_228 : decode cX3_all 228 = .ok (.getfield 116, 3) := dk_180 0 116 (dk_at dksX3_all_9 17 rfl rfl)
theorem dX3_all_231 : decode cX3_all 231 = .ok (.baload, 1) := dk_51 (dk_at dksX3_all_9 20 rfl rfl)
theorem dX3_all_232 : decode cX3_all 232 = .ok (.ior, 1) := dk_128 (dk_at dksX3_all_9 21 rfl rfl)
theorem dX3_all_233 : decode cX3_all 233 = .ok (.bastore, 1) := dk_84 (dk_at dksX3_all_9 22 rfl rfl)
theorem dX3_all_234 : decode cX3_all 234 = .ok (.goto (-67), 3) := dk_167 255 189 (dk_at dksX3_all_10 0 rfl rfl)
theorem dX3_all_237 : decode cX3_all 237 = .ok (.goto (-189), 3) := dk_167 255 67 (dk_at dksX3_all_10 3 rfl rfl)
theorem dX3_all_240 : decode cX3_all 240 = .ok (.aload_n 2, 1) := dk_44 (dk_at dksX3_all_10 6 rfl rfl)
theorem dX3_all_241 : decode cX3_all 241 = .ok (.areturn, 1) := dk_176 (dk_at dksX3_all_10 7 rfl rfl)
abbrev cX3_finds : ByteArray := prog_15_method_72_code
def yX3_finds : MethodName := ⟨RX3, "finds", "(I)Z"⟩
def dkwX3_finds_2 : List UInt8 := [4, 167, 0, 4, 3, 172]
abbrev dktX3_finds_2 : List UInt8 := dkwX3_finds_2 ++ []
def dkwX3_finds_1 : List UInt8 := [180, 0, 34, 182, 1, 143, 42, 180, 0, 28, 27, 182, 0, 69, 192, 0, 130, 180, 0, 192, 51, 153, 0, 7]
abbrev dktX3_finds_1 : List UInt8 := dkwX3_finds_1 ++ dktX3_finds_2
def dkwX3_finds_0 : List UInt8 := [42, 42, 27, 182, 1, 14, 153, 0, 7, 3, 167, 0, 4, 4, 182, 0, 230, 154, 0, 33, 42, 42]
abbrev dktX3_finds_0 : List UInt8 := dkwX3_finds_0 ++ dktX3_finds_1
theorem dksX3_finds_0 : cX3_finds.data.toList.drop 0 = dktX3_finds_0 := by decide +kernel
theorem dksX3_finds_1 : cX3_finds.data.toList.drop 22 = dktX3_finds_1 := dk_seg dksX3_finds_0 22 rfl rfl
theorem dksX3_finds_2 : cX3_finds.data.toList.drop 46 = dktX3_finds_2 := dk_seg dksX3_finds_1 24 rfl rfl
theorem dX3_finds_0 : decode cX3_finds 0 = .ok (.aload_n 0, 1) := dk_42 (dk_at dksX3_finds_0 0 rfl rfl)
theorem dX3_finds_1 : decode cX3_finds 1 = .ok (.aload_n 0, 1) := dk_42 (dk_at dksX3_finds_0 1 rfl rfl)
theorem dX3_finds_2 : decode cX3_finds 2 = .ok (.iload_n 1, 1) := dk_27 (dk_at dksX3_finds_0 2 rfl rfl)
theorem dX3_finds_3 : decode cX3_finds 3 = .ok (.invokevirtual 270, 3) := dk_182 1 14 (dk_at dksX3_finds_0 3 rfl rfl)
theorem dX3_finds_6 : decode cX3_finds 6 = .ok (.ifCond .eq 7, 3) := dk_153 0 7 (dk_at dksX3_finds_0 6 rfl rfl)
theorem dX3_finds_9 : decode cX3_finds 9 = .ok (.iconst 0, 1) := dk_3 (dk_at dksX3_finds_0 9 rfl rfl)
theorem dX3_finds_10 : decode cX3_finds 10 = .ok (.goto 4, 3) := dk_167 0 4 (dk_at dksX3_finds_0 10 rfl rfl)
theorem dX3_finds_13 : decode cX3_finds 13 = .ok (.iconst 1, 1) := dk_4 (dk_at dksX3_finds_0 13 rfl rfl)
theorem dX3_finds_14 : decode cX3_finds 14 = .ok (.invokevirtual 230, 3) := dk_182 0 230 (dk_at dksX3_finds_0 14 rfl rfl)
theorem dX3_finds_17 : decode cX3_finds 17 = .ok (.ifCond .ne 33, 3) := dk_154 0 33 (dk_at dksX3_finds_0 17 rfl rfl)
theorem dX3_finds_20 : decode cX3_finds 20 = .ok (.aload_n 0, 1) := dk_42 (dk_at dksX3_finds_0 20 rfl rfl)
theorem dX3_finds_21 : decode cX3_finds 21 = .ok (.aload_n 0, 1) := dk_42 (dk_at dksX3_finds_0 21 rfl rfl)
theorem dX3_finds_22 : decode cX3_finds 22 = .ok (.getfield 34, 3) := dk_180 0 34 (dk_at dksX3_finds_1 0 rfl rfl)
theorem dX3_finds_25 : decode cX3_finds 25 = .ok (.invokevirtual 399, 3) := dk_182 1 143 (dk_at dksX3_finds_1 3 rfl rfl)
theorem dX3_finds_28 : decode cX3_finds 28 = .ok (.aload_n 0, 1) := dk_42 (dk_at dksX3_finds_1 6 rfl rfl)
theorem dX3_finds_29 : decode cX3_finds 29 = .ok (.getfield 28, 3) := dk_180 0 28 (dk_at dksX3_finds_1 7 rfl rfl)
theorem dX3_finds_32 : decode cX3_finds 32 = .ok (.iload_n 1, 1) := dk_27 (dk_at dksX3_finds_1 10 rfl rfl)
theorem dX3_finds_33 : decode cX3_finds 33 = .ok (.invokevirtual 69, 3) := dk_182 0 69 (dk_at dksX3_finds_1 11 rfl rfl)
theorem dX3_finds_36 : decode cX3_finds 36 = .ok (.checkcast 130, 3) := dk_192 0 130 (dk_at dksX3_finds_1 14 rfl rfl)
theorem dX3_finds_39 : decode cX3_finds 39 = .ok (.getfield 192, 3) := dk_180 0 192 (dk_at dksX3_finds_1 17 rfl rfl)
theorem dX3_finds_42 : decode cX3_finds 42 = .ok (.baload, 1) := dk_51 (dk_at dksX3_finds_1 20 rfl rfl)
theorem dX3_finds_43 : decode cX3_finds 43 = .ok (.ifCond .eq 7, 3) := dk_153 0 7 (dk_at dksX3_finds_1 21 rfl rfl)
theorem dX3_finds_46 : decode cX3_finds 46 = .ok (.iconst 1, 1) := dk_4 (dk_at dksX3_finds_2 0 rfl rfl)
theorem dX3_finds_47 : decode cX3_finds 47 = .ok (.goto 4, 3) := dk_167 0 4 (dk_at dksX3_finds_2 1 rfl rfl)
theorem dX3_finds_50 : decode cX3_finds 50 = .ok (.iconst 0, 1) := dk_3 (dk_at dksX3_finds_2 4 rfl rfl)
theorem dX3_finds_51 : decode cX3_finds 51 = .ok (.ireturn, 1) := dk_172 (dk_at dksX3_finds_2 5 rfl rfl)
abbrev cX3_findsText : ByteArray := prog_15_method_73_code
def yX3_findsText : MethodName := ⟨RX3, "findsText", "(I)Z"⟩
def dkwX3_findsText_2 : List UInt8 := [4, 167, 0, 4, 3, 172]
abbrev dktX3_findsText_2 : List UInt8 := dkwX3_findsText_2 ++ []
def dkwX3_findsText_1 : List UInt8 := [180, 0, 34, 182, 1, 143, 42, 180, 0, 31, 27, 182, 0, 69, 192, 1, 113, 180, 1, 133, 51, 153, 0, 7]
abbrev dktX3_findsText_1 : List UInt8 := dkwX3_findsText_1 ++ dktX3_findsText_2
def dkwX3_findsText_0 : List UInt8 := [42, 42, 27, 182, 1, 121, 153, 0, 7, 3, 167, 0, 4, 4, 182, 0, 230, 154, 0, 33, 42, 42]
abbrev dktX3_findsText_0 : List UInt8 := dkwX3_findsText_0 ++ dktX3_findsText_1
theorem dksX3_findsText_0 : cX3_findsText.data.toList.drop 0 = dktX3_findsText_0 := by decide +kernel
theorem dksX3_findsText_1 : cX3_findsText.data.toList.drop 22 = dktX3_findsText_1 := dk_seg dksX3_findsText_0 22 rfl rfl
theorem dksX3_findsText_2 : cX3_findsText.data.toList.drop 46 = dktX3_findsText_2 := dk_seg dksX3_findsText_1 24 rfl rfl
theorem dX3_findsText_0 : decode cX3_findsText 0 = .ok (.aload_n 0, 1) := dk_42 (dk_at dksX3_findsText_0 0 rfl rfl)
theorem dX3_findsText_1 : decode cX3_findsText 1 = .ok (.aload_n 0, 1) := dk_42 (dk_at dksX3_findsText_0 1 rfl rfl)
theorem dX3_findsText_2 : decode cX3_findsText 2 = .ok (.iload_n 1, 1) := dk_27 (dk_at dksX3_findsText_0 2 rfl rfl)
theorem dX3_findsText_3 : decode cX3_findsText 3 = .ok (.invokevirtual 377, 3) := dk_182 1 121 (dk_at dksX3_findsText_0 3 rfl rfl)
theorem dX3_findsText_6 : decode cX3_findsText 6 = .ok (.ifCond .eq 7, 3) := dk_153 0 7 (dk_at dksX3_findsText_0 6 rfl rfl)
theorem dX3_findsText_9 : decode cX3_findsText 9 = .ok (.iconst 0, 1) := dk_3 (dk_at dksX3_findsText_0 9 rfl rfl)
theorem dX3_findsText_10 : decode cX3_findsText 10 = .ok (.goto 4, 3) := dk_167 0 4 (dk_at dksX3_findsText_0 10 rfl rfl)
theorem dX3_findsText_13 : decode cX3_findsText 13 = .ok (.iconst 1, 1) := dk_4 (dk_at dksX3_findsText_0 13 rfl rfl)
theorem dX3_findsText_14 : decode cX3_findsText 14 = .ok (.invokevirtual 230, 3) := dk_182 0 230 (dk_at dksX3_findsText_0 14 rfl rfl)
theorem dX3_findsText_17 : decode cX3_findsText 17 = .ok (.ifCond .ne 33, 3) := dk_154 0 33 (dk_at dksX3_findsText_0 17 rfl rfl)
theorem dX3_findsText_20 : decode cX3_findsText 20 = .ok (.aload_n 0, 1) := dk_42 (dk_at dksX3_findsText_0 20 rfl rfl)
theorem dX3_findsText_21 : decode cX3_findsText 21 = .ok (.aload_n 0, 1) := dk_42 (dk_at dksX3_findsText_0 21 rfl rfl)
theorem dX3_findsText_22 : decode cX3_findsText 22 = .ok (.getfield 34, 3) := dk_180 0 34 (dk_at dksX3_findsText_1 0 rfl rfl)
theorem dX3_findsText_25 : decode cX3_findsText 25 = .ok (.invokevirtual 399, 3) := dk_182 1 143 (dk_at dksX3_findsText_1 3 rfl rfl)
theorem dX3_findsText_28 : decode cX3_findsText 28 = .ok (.aload_n 0, 1) := dk_42 (dk_at dksX3_findsText_1 6 rfl rfl)
theorem dX3_findsText_29 : decode cX3_findsText 29 = .ok (.getfield 31, 3) := dk_180 0 31 (dk_at dksX3_findsText_1 7 rfl rfl)
theorem dX3_findsText_32 : decode cX3_findsText 32 = .ok (.iload_n 1, 1) := dk_27 (dk_at dksX3_findsText_1 10 rfl rfl)
theorem dX3_findsText_33 : decode cX3_findsText 33 = .ok (.invokevirtual 69, 3) := dk_182 0 69 (dk_at dksX3_findsText_1 11 rfl rfl)
theorem dX3_findsText_36 : decode cX3_findsText 36 = .ok (.checkcast 369, 3) := dk_192 1 113 (dk_at dksX3_findsText_1 14 rfl rfl)
theorem dX3_findsText_39 : decode cX3_findsText 39 = .ok (.getfield 389, 3) := dk_180 1 133 (dk_at dksX3_findsText_1 17 rfl rfl)
theorem dX3_findsText_42 : decode cX3_findsText 42 = .ok (.baload, 1) := dk_51 (dk_at dksX3_findsText_1 20 rfl rfl)
theorem dX3_findsText_43 : decode cX3_findsText 43 = .ok (.ifCond .eq 7, 3) := dk_153 0 7 (dk_at dksX3_findsText_1 21 rfl rfl)
theorem dX3_findsText_46 : decode cX3_findsText 46 = .ok (.iconst 1, 1) := dk_4 (dk_at dksX3_findsText_2 0 rfl rfl)
theorem dX3_findsText_47 : decode cX3_findsText 47 = .ok (.goto 4, 3) := dk_167 0 4 (dk_at dksX3_findsText_2 1 rfl rfl)
theorem dX3_findsText_50 : decode cX3_findsText 50 = .ok (.iconst 0, 1) := dk_3 (dk_at dksX3_findsText_2 4 rfl rfl)
theorem dX3_findsText_51 : decode cX3_findsText 51 = .ok (.ireturn, 1) := dk_172 (dk_at dksX3_findsText_2 5 rfl rfl)
abbrev cX3_found : ByteArray := prog_15_method_74_code
def yX3_found : MethodName := ⟨RX3, "found", "()I"⟩
def dkwX3_found_2 : List UInt8 := [132, 4, 1, 167, 255, 228, 27, 172]
abbrev dktX3_found_2 : List UInt8 := dkwX3_found_2 ++ []
def dkwX3_found_1 : List UInt8 := [29, 162, 0, 28, 44, 21, 4, 51, 54, 5, 27, 21, 5, 153, 0, 7, 4, 167, 0, 4, 3, 96, 60]
abbrev dktX3_found_1 : List UInt8 := dkwX3_found_1 ++ dktX3_found_2
def dkwX3_found_0 : List UInt8 := [42, 3, 181, 0, 41, 3, 60, 42, 42, 180, 0, 34, 182, 1, 143, 77, 44, 190, 62, 3, 54, 4, 21, 4]
abbrev dktX3_found_0 : List UInt8 := dkwX3_found_0 ++ dktX3_found_1
theorem dksX3_found_0 : cX3_found.data.toList.drop 0 = dktX3_found_0 := by decide +kernel
theorem dksX3_found_1 : cX3_found.data.toList.drop 24 = dktX3_found_1 := dk_seg dksX3_found_0 24 rfl rfl
theorem dksX3_found_2 : cX3_found.data.toList.drop 47 = dktX3_found_2 := dk_seg dksX3_found_1 23 rfl rfl
theorem dX3_found_0 : decode cX3_found 0 = .ok (.aload_n 0, 1) := dk_42 (dk_at dksX3_found_0 0 rfl rfl)
theorem dX3_found_1 : decode cX3_found 1 = .ok (.iconst 0, 1) := dk_3 (dk_at dksX3_found_0 1 rfl rfl)
theorem dX3_found_2 : decode cX3_found 2 = .ok (.putfield 41, 3) := dk_181 0 41 (dk_at dksX3_found_0 2 rfl rfl)
theorem dX3_found_5 : decode cX3_found 5 = .ok (.iconst 0, 1) := dk_3 (dk_at dksX3_found_0 5 rfl rfl)
theorem dX3_found_6 : decode cX3_found 6 = .ok (.istore_n 1, 1) := dk_60 (dk_at dksX3_found_0 6 rfl rfl)
theorem dX3_found_7 : decode cX3_found 7 = .ok (.aload_n 0, 1) := dk_42 (dk_at dksX3_found_0 7 rfl rfl)
theorem dX3_found_8 : decode cX3_found 8 = .ok (.aload_n 0, 1) := dk_42 (dk_at dksX3_found_0 8 rfl rfl)
theorem dX3_found_9 : decode cX3_found 9 = .ok (.getfield 34, 3) := dk_180 0 34 (dk_at dksX3_found_0 9 rfl rfl)
theorem dX3_found_12 : decode cX3_found 12 = .ok (.invokevirtual 399, 3) := dk_182 1 143 (dk_at dksX3_found_0 12 rfl rfl)
theorem dX3_found_15 : decode cX3_found 15 = .ok (.astore_n 2, 1) := dk_77 (dk_at dksX3_found_0 15 rfl rfl)
theorem dX3_found_16 : decode cX3_found 16 = .ok (.aload_n 2, 1) := dk_44 (dk_at dksX3_found_0 16 rfl rfl)
theorem dX3_found_17 : decode cX3_found 17 = .ok (.arraylength, 1) := dk_190 (dk_at dksX3_found_0 17 rfl rfl)
theorem dX3_found_18 : decode cX3_found 18 = .ok (.istore_n 3, 1) := dk_62 (dk_at dksX3_found_0 18 rfl rfl)
theorem dX3_found_19 : decode cX3_found 19 = .ok (.iconst 0, 1) := dk_3 (dk_at dksX3_found_0 19 rfl rfl)
theorem dX3_found_20 : decode cX3_found 20 = .ok (.istore 4, 2) := dk_54 4 (dk_at dksX3_found_0 20 rfl rfl)
theorem dX3_found_22 : decode cX3_found 22 = .ok (.iload 4, 2) := dk_21 4 (dk_at dksX3_found_0 22 rfl rfl)
theorem dX3_found_24 : decode cX3_found 24 = .ok (.iload_n 3, 1) := dk_29 (dk_at dksX3_found_1 0 rfl rfl)
theorem dX3_found_25 : decode cX3_found 25 = .ok (.if_icmp .ge 28, 3) := dk_162 0 28 (dk_at dksX3_found_1 1 rfl rfl)
theorem dX3_found_28 : decode cX3_found 28 = .ok (.aload_n 2, 1) := dk_44 (dk_at dksX3_found_1 4 rfl rfl)
theorem dX3_found_29 : decode cX3_found 29 = .ok (.iload 4, 2) := dk_21 4 (dk_at dksX3_found_1 5 rfl rfl)
theorem dX3_found_31 : decode cX3_found 31 = .ok (.baload, 1) := dk_51 (dk_at dksX3_found_1 7 rfl rfl)
theorem dX3_found_32 : decode cX3_found 32 = .ok (.istore 5, 2) := dk_54 5 (dk_at dksX3_found_1 8 rfl rfl)
theorem dX3_found_34 : decode cX3_found 34 = .ok (.iload_n 1, 1) := dk_27 (dk_at dksX3_found_1 10 rfl rfl)
theorem dX3_found_35 : decode cX3_found 35 = .ok (.iload 5, 2) := dk_21 5 (dk_at dksX3_found_1 11 rfl rfl)
theorem dX3_found_37 : decode cX3_found 37 = .ok (.ifCond .eq 7, 3) := dk_153 0 7 (dk_at dksX3_found_1 13 rfl rfl)
theorem dX3_found_40 : decode cX3_found 40 = .ok (.iconst 1, 1) := dk_4 (dk_at dksX3_found_1 16 rfl rfl)
theorem dX3_found_41 : decode cX3_found 41 = .ok (.goto 4, 3) := dk_167 0 4 (dk_at dksX3_found_1 17 rfl rfl)
theorem dX3_found_44 : decode cX3_found 44 = .ok (.iconst 0, 1) := dk_3 (dk_at dksX3_found_1 20 rfl rfl)
theorem dX3_found_45 : decode cX3_found 45 = .ok (.iadd, 1) := dk_96 (dk_at dksX3_found_1 21 rfl rfl)
theorem dX3_found_46 : decode cX3_found 46 = .ok (.istore_n 1, 1) := dk_60 (dk_at dksX3_found_1 22 rfl rfl)
theorem dX3_found_47 : decode cX3_found 47 = .ok (.iinc 4 1, 3) := dk_132 4 1 (dk_at dksX3_found_2 0 rfl rfl)
theorem dX3_found_50 : decode cX3_found 50 = .ok (.goto (-28), 3) := dk_167 255 228 (dk_at dksX3_found_2 3 rfl rfl)
theorem dX3_found_53 : decode cX3_found 53 = .ok (.iload_n 1, 1) := dk_27 (dk_at dksX3_found_2 6 rfl rfl)
theorem dX3_found_54 : decode cX3_found 54 = .ok (.ireturn, 1) := dk_172 (dk_at dksX3_found_2 7 rfl rfl)
abbrev cX3_canFind : ByteArray := prog_15_method_75_code
def yX3_canFind : MethodName := ⟨RX3, "canFind", "(IIZ)Z"⟩
def dkwX3_canFind_3 : List UInt8 := [192, 0, 130, 180, 0, 192, 51, 172]
abbrev dktX3_canFind_3 : List UInt8 := dkwX3_canFind_3 ++ []
def dkwX3_canFind_2 : List UInt8 := [180, 0, 211, 167, 0, 8, 42, 27, 182, 0, 207, 182, 1, 143, 42, 180, 0, 28, 28, 182, 0, 69]
abbrev dktX3_canFind_2 : List UInt8 := dkwX3_canFind_2 ++ dktX3_canFind_3
def dkwX3_canFind_1 : List UInt8 := [182, 0, 230, 153, 0, 5, 3, 172, 42, 29, 153, 0, 20, 42, 180, 0, 22, 27, 182, 0, 69, 192, 0, 157]
abbrev dktX3_canFind_1 : List UInt8 := dkwX3_canFind_1 ++ dktX3_canFind_2
def dkwX3_canFind_0 : List UInt8 := [42, 42, 27, 182, 0, 226, 153, 0, 15, 42, 28, 182, 1, 14, 153, 0, 7, 3, 167, 0, 4, 4]
abbrev dktX3_canFind_0 : List UInt8 := dkwX3_canFind_0 ++ dktX3_canFind_1
theorem dksX3_canFind_0 : cX3_canFind.data.toList.drop 0 = dktX3_canFind_0 := by decide +kernel
theorem dksX3_canFind_1 : cX3_canFind.data.toList.drop 22 = dktX3_canFind_1 := dk_seg dksX3_canFind_0 22 rfl rfl
theorem dksX3_canFind_2 : cX3_canFind.data.toList.drop 46 = dktX3_canFind_2 := dk_seg dksX3_canFind_1 24 rfl rfl
theorem dksX3_canFind_3 : cX3_canFind.data.toList.drop 68 = dktX3_canFind_3 := dk_seg dksX3_canFind_2 22 rfl rfl
theorem dX3_canFind_0 : decode cX3_canFind 0 = .ok (.aload_n 0, 1) := dk_42 (dk_at dksX3_canFind_0 0 rfl rfl)
theorem dX3_canFind_1 : decode cX3_canFind 1 = .ok (.aload_n 0, 1) := dk_42 (dk_at dksX3_canFind_0 1 rfl rfl)
theorem dX3_canFind_2 : decode cX3_canFind 2 = .ok (.iload_n 1, 1) := dk_27 (dk_at dksX3_canFind_0 2 rfl rfl)
theorem dX3_canFind_3 : decode cX3_canFind 3 = .ok (.invokevirtual 226, 3) := dk_182 0 226 (dk_at dksX3_canFind_0 3 rfl rfl)
theorem dX3_canFind_6 : decode cX3_canFind 6 = .ok (.ifCond .eq 15, 3) := dk_153 0 15 (dk_at dksX3_canFind_0 6 rfl rfl)
theorem dX3_canFind_9 : decode cX3_canFind 9 = .ok (.aload_n 0, 1) := dk_42 (dk_at dksX3_canFind_0 9 rfl rfl)
theorem dX3_canFind_10 : decode cX3_canFind 10 = .ok (.iload_n 2, 1) := dk_28 (dk_at dksX3_canFind_0 10 rfl rfl)
theorem dX3_canFind_11 : decode cX3_canFind 11 = .ok (.invokevirtual 270, 3) := dk_182 1 14 (dk_at dksX3_canFind_0 11 rfl rfl)
theorem dX3_canFind_14 : decode cX3_canFind 14 = .ok (.ifCond .eq 7, 3) := dk_153 0 7 (dk_at dksX3_canFind_0 14 rfl rfl)
theorem dX3_canFind_17 : decode cX3_canFind 17 = .ok (.iconst 0, 1) := dk_3 (dk_at dksX3_canFind_0 17 rfl rfl)
theorem dX3_canFind_18 : decode cX3_canFind 18 = .ok (.goto 4, 3) := dk_167 0 4 (dk_at dksX3_canFind_0 18 rfl rfl)
theorem dX3_canFind_21 : decode cX3_canFind 21 = .ok (.iconst 1, 1) := dk_4 (dk_at dksX3_canFind_0 21 rfl rfl)
theorem dX3_canFind_22 : decode cX3_canFind 22 = .ok (.invokevirtual 230, 3) := dk_182 0 230 (dk_at dksX3_canFind_1 0 rfl rfl)
theorem dX3_canFind_25 : decode cX3_canFind 25 = .ok (.ifCond .eq 5, 3) := dk_153 0 5 (dk_at dksX3_canFind_1 3 rfl rfl)
theorem dX3_canFind_28 : decode cX3_canFind 28 = .ok (.iconst 0, 1) := dk_3 (dk_at dksX3_canFind_1 6 rfl rfl)
theorem dX3_canFind_29 : decode cX3_canFind 29 = .ok (.ireturn, 1) := dk_172 (dk_at dksX3_canFind_1 7 rfl rfl)
theorem dX3_canFind_30 : decode cX3_canFind 30 = .ok (.aload_n 0, 1) := dk_42 (dk_at dksX3_canFind_1 8 rfl rfl)
theorem dX3_canFind_31 : decode cX3_canFind 31 = .ok (.iload_n 3, 1) := dk_29 (dk_at dksX3_canFind_1 9 rfl rfl)
theorem dX3_canFind_32 : decode cX3_canFind 32 = .ok (.ifCond .eq 20, 3) := dk_153 0 20 (dk_at dksX3_canFind_1 10 rfl rfl)
theorem dX3_canFind_35 : decode cX3_canFind 35 = .ok (.aload_n 0, 1) := dk_42 (dk_at dksX3_canFind_1 13 rfl rfl)
theorem dX3_canFind_36 : decode cX3_canFind 36 = .ok (.getfield 22, 3) := dk_180 0 22 (dk_at dksX3_canFind_1 14 rfl rfl)
theorem dX3_canFind_39 : decode cX3_canFind 39 = .ok (.iload_n 1, 1) := dk_27 (dk_at dksX3_canFind_1 17 rfl rfl)
theorem dX3_canFind_40 : decode cX3_canFind 40 = .ok (.invokevirtual 69, 3) := dk_182 0 69 (dk_at dksX3_canFind_1 18 rfl rfl)
theorem dX3_canFind_43 : decode cX3_canFind 43 = .ok (.checkcast 157, 3) := dk_192 0 157 (dk_at dksX3_canFind_1 21 rfl rfl)
theorem dX3_canFind_46 : decode cX3_canFind 46 = .ok (.getfield 211, 3) := dk_180 0 211 (dk_at dksX3_canFind_2 0 rfl rfl)
theorem dX3_canFind_49 : decode cX3_canFind 49 = .ok (.goto 8, 3) := dk_167 0 8 (dk_at dksX3_canFind_2 3 rfl rfl)
theorem dX3_canFind_52 : decode cX3_canFind 52 = .ok (.aload_n 0, 1) := dk_42 (dk_at dksX3_canFind_2 6 rfl rfl)
theorem dX3_canFind_53 : decode cX3_canFind 53 = .ok (.iload_n 1, 1) := dk_27 (dk_at dksX3_canFind_2 7 rfl rfl)
theorem dX3_canFind_54 : decode cX3_canFind 54 = .ok (.invokevirtual 207, 3) := dk_182 0 207 (dk_at dksX3_canFind_2 8 rfl rfl)
theorem dX3_canFind_57 : decode cX3_canFind 57 = .ok (.invokevirtual 399, 3) := dk_182 1 143 (dk_at dksX3_canFind_2 11 rfl rfl)
theorem dX3_canFind_60 : decode cX3_canFind 60 = .ok (.aload_n 0, 1) := dk_42 (dk_at dksX3_canFind_2 14 rfl rfl)
theorem dX3_canFind_61 : decode cX3_canFind 61 = .ok (.getfield 28, 3) := dk_180 0 28 (dk_at dksX3_canFind_2 15 rfl rfl)
theorem dX3_canFind_64 : decode cX3_canFind 64 = .ok (.iload_n 2, 1) := dk_28 (dk_at dksX3_canFind_2 18 rfl rfl)
theorem dX3_canFind_65 : decode cX3_canFind 65 = .ok (.invokevirtual 69, 3) := dk_182 0 69 (dk_at dksX3_canFind_2 19 rfl rfl)
theorem dX3_canFind_68 : decode cX3_canFind 68 = .ok (.checkcast 130, 3) := dk_192 0 130 (dk_at dksX3_canFind_3 0 rfl rfl)
theorem dX3_canFind_71 : decode cX3_canFind 71 = .ok (.getfield 192, 3) := dk_180 0 192 (dk_at dksX3_canFind_3 3 rfl rfl)
theorem dX3_canFind_74 : decode cX3_canFind 74 = .ok (.baload, 1) := dk_51 (dk_at dksX3_canFind_3 6 rfl rfl)
theorem dX3_canFind_75 : decode cX3_canFind 75 = .ok (.ireturn, 1) := dk_172 (dk_at dksX3_canFind_3 7 rfl rfl)
abbrev cX3_canRead : ByteArray := prog_15_method_76_code
def yX3_canRead : MethodName := ⟨RX3, "canRead", "(II)Z"⟩
def dkwX3_canRead_2 : List UInt8 := [192, 1, 113, 180, 1, 133, 51, 153, 0, 7, 4, 167, 0, 4, 3, 172]
abbrev dktX3_canRead_2 : List UInt8 := dkwX3_canRead_2 ++ []
def dkwX3_canRead_1 : List UInt8 := [182, 0, 230, 154, 0, 34, 42, 42, 27, 182, 0, 207, 182, 1, 143, 42, 180, 0, 31, 28, 182, 0, 69]
abbrev dktX3_canRead_1 : List UInt8 := dkwX3_canRead_1 ++ dktX3_canRead_2
def dkwX3_canRead_0 : List UInt8 := [42, 42, 27, 182, 0, 226, 153, 0, 15, 42, 28, 182, 1, 121, 153, 0, 7, 3, 167, 0, 4, 4]
abbrev dktX3_canRead_0 : List UInt8 := dkwX3_canRead_0 ++ dktX3_canRead_1
theorem dksX3_canRead_0 : cX3_canRead.data.toList.drop 0 = dktX3_canRead_0 := by decide +kernel
theorem dksX3_canRead_1 : cX3_canRead.data.toList.drop 22 = dktX3_canRead_1 := dk_seg dksX3_canRead_0 22 rfl rfl
theorem dksX3_canRead_2 : cX3_canRead.data.toList.drop 45 = dktX3_canRead_2 := dk_seg dksX3_canRead_1 23 rfl rfl
theorem dX3_canRead_0 : decode cX3_canRead 0 = .ok (.aload_n 0, 1) := dk_42 (dk_at dksX3_canRead_0 0 rfl rfl)
theorem dX3_canRead_1 : decode cX3_canRead 1 = .ok (.aload_n 0, 1) := dk_42 (dk_at dksX3_canRead_0 1 rfl rfl)
theorem dX3_canRead_2 : decode cX3_canRead 2 = .ok (.iload_n 1, 1) := dk_27 (dk_at dksX3_canRead_0 2 rfl rfl)
theorem dX3_canRead_3 : decode cX3_canRead 3 = .ok (.invokevirtual 226, 3) := dk_182 0 226 (dk_at dksX3_canRead_0 3 rfl rfl)
theorem dX3_canRead_6 : decode cX3_canRead 6 = .ok (.ifCond .eq 15, 3) := dk_153 0 15 (dk_at dksX3_canRead_0 6 rfl rfl)
theorem dX3_canRead_9 : decode cX3_canRead 9 = .ok (.aload_n 0, 1) := dk_42 (dk_at dksX3_canRead_0 9 rfl rfl)
theorem dX3_canRead_10 : decode cX3_canRead 10 = .ok (.iload_n 2, 1) := dk_28 (dk_at dksX3_canRead_0 10 rfl rfl)
theorem dX3_canRead_11 : decode cX3_canRead 11 = .ok (.invokevirtual 377, 3) := dk_182 1 121 (dk_at dksX3_canRead_0 11 rfl rfl)
theorem dX3_canRead_14 : decode cX3_canRead 14 = .ok (.ifCond .eq 7, 3) := dk_153 0 7 (dk_at dksX3_canRead_0 14 rfl rfl)
theorem dX3_canRead_17 : decode cX3_canRead 17 = .ok (.iconst 0, 1) := dk_3 (dk_at dksX3_canRead_0 17 rfl rfl)
theorem dX3_canRead_18 : decode cX3_canRead 18 = .ok (.goto 4, 3) := dk_167 0 4 (dk_at dksX3_canRead_0 18 rfl rfl)
theorem dX3_canRead_21 : decode cX3_canRead 21 = .ok (.iconst 1, 1) := dk_4 (dk_at dksX3_canRead_0 21 rfl rfl)
theorem dX3_canRead_22 : decode cX3_canRead 22 = .ok (.invokevirtual 230, 3) := dk_182 0 230 (dk_at dksX3_canRead_1 0 rfl rfl)
theorem dX3_canRead_25 : decode cX3_canRead 25 = .ok (.ifCond .ne 34, 3) := dk_154 0 34 (dk_at dksX3_canRead_1 3 rfl rfl)
theorem dX3_canRead_28 : decode cX3_canRead 28 = .ok (.aload_n 0, 1) := dk_42 (dk_at dksX3_canRead_1 6 rfl rfl)
theorem dX3_canRead_29 : decode cX3_canRead 29 = .ok (.aload_n 0, 1) := dk_42 (dk_at dksX3_canRead_1 7 rfl rfl)
theorem dX3_canRead_30 : decode cX3_canRead 30 = .ok (.iload_n 1, 1) := dk_27 (dk_at dksX3_canRead_1 8 rfl rfl)
theorem dX3_canRead_31 : decode cX3_canRead 31 = .ok (.invokevirtual 207, 3) := dk_182 0 207 (dk_at dksX3_canRead_1 9 rfl rfl)
theorem dX3_canRead_34 : decode cX3_canRead 34 = .ok (.invokevirtual 399, 3) := dk_182 1 143 (dk_at dksX3_canRead_1 12 rfl rfl)
theorem dX3_canRead_37 : decode cX3_canRead 37 = .ok (.aload_n 0, 1) := dk_42 (dk_at dksX3_canRead_1 15 rfl rfl)
theorem dX3_canRead_38 : decode cX3_canRead 38 = .ok (.getfield 31, 3) := dk_180 0 31 (dk_at dksX3_canRead_1 16 rfl rfl)
theorem dX3_canRead_41 : decode cX3_canRead 41 = .ok (.iload_n 2, 1) := dk_28 (dk_at dksX3_canRead_1 19 rfl rfl)
theorem dX3_canRead_42 : decode cX3_canRead 42 = .ok (.invokevirtual 69, 3) := dk_182 0 69 (dk_at dksX3_canRead_1 20 rfl rfl)
theorem dX3_canRead_45 : decode cX3_canRead 45 = .ok (.checkcast 369, 3) := dk_192 1 113 (dk_at dksX3_canRead_2 0 rfl rfl)
theorem dX3_canRead_48 : decode cX3_canRead 48 = .ok (.getfield 389, 3) := dk_180 1 133 (dk_at dksX3_canRead_2 3 rfl rfl)
theorem dX3_canRead_51 : decode cX3_canRead 51 = .ok (.baload, 1) := dk_51 (dk_at dksX3_canRead_2 6 rfl rfl)
theorem dX3_canRead_52 : decode cX3_canRead 52 = .ok (.ifCond .eq 7, 3) := dk_153 0 7 (dk_at dksX3_canRead_2 7 rfl rfl)
theorem dX3_canRead_55 : decode cX3_canRead 55 = .ok (.iconst 1, 1) := dk_4 (dk_at dksX3_canRead_2 10 rfl rfl)
theorem dX3_canRead_56 : decode cX3_canRead 56 = .ok (.goto 4, 3) := dk_167 0 4 (dk_at dksX3_canRead_2 11 rfl rfl)
theorem dX3_canRead_59 : decode cX3_canRead 59 = .ok (.iconst 0, 1) := dk_3 (dk_at dksX3_canRead_2 14 rfl rfl)
theorem dX3_canRead_60 : decode cX3_canRead 60 = .ok (.ireturn, 1) := dk_172 (dk_at dksX3_canRead_2 15 rfl rfl)
abbrev cX3_blankShare : ByteArray := prog_15_method_77_code
def yX3_blankShare : MethodName := ⟨RX3, "blankShare", "()F"⟩
def dkwX3_blankShare_3 : List UInt8 := [182, 0, 150, 134, 110, 174]
abbrev dktX3_blankShare_3 : List UInt8 := dkwX3_blankShare_3 ++ []
def dkwX3_blankShare_2 : List UInt8 := [46, 2, 160, 0, 7, 4, 167, 0, 4, 3, 96, 60, 132, 2, 1, 167, 255, 221, 27, 134, 42, 182, 1, 40]
abbrev dktX3_blankShare_2 : List UInt8 := dkwX3_blankShare_2 ++ dktX3_blankShare_3
def dkwX3_blankShare_1 : List UInt8 := [3, 60, 3, 61, 28, 42, 182, 1, 40, 182, 0, 150, 162, 0, 30, 27, 42, 182, 1, 40, 180, 0, 129, 28]
abbrev dktX3_blankShare_1 : List UInt8 := dkwX3_blankShare_1 ++ dktX3_blankShare_2
def dkwX3_blankShare_0 : List UInt8 := [42, 42, 180, 0, 28, 182, 0, 250, 153, 0, 7, 4, 167, 0, 4, 3, 182, 0, 230, 153, 0, 5, 11, 174]
abbrev dktX3_blankShare_0 : List UInt8 := dkwX3_blankShare_0 ++ dktX3_blankShare_1
theorem dksX3_blankShare_0 : cX3_blankShare.data.toList.drop 0 = dktX3_blankShare_0 := by decide +kernel
theorem dksX3_blankShare_1 : cX3_blankShare.data.toList.drop 24 = dktX3_blankShare_1 := dk_seg dksX3_blankShare_0 24 rfl rfl
theorem dksX3_blankShare_2 : cX3_blankShare.data.toList.drop 48 = dktX3_blankShare_2 := dk_seg dksX3_blankShare_1 24 rfl rfl
theorem dksX3_blankShare_3 : cX3_blankShare.data.toList.drop 72 = dktX3_blankShare_3 := dk_seg dksX3_blankShare_2 24 rfl rfl
theorem dX3_blankShare_0 : decode cX3_blankShare 0 = .ok (.aload_n 0, 1) := dk_42 (dk_at dksX3_blankShare_0 0 rfl rfl)
theorem dX3_blankShare_1 : decode cX3_blankShare 1 = .ok (.aload_n 0, 1) := dk_42 (dk_at dksX3_blankShare_0 1 rfl rfl)
theorem dX3_blankShare_2 : decode cX3_blankShare 2 = .ok (.getfield 28, 3) := dk_180 0 28 (dk_at dksX3_blankShare_0 2 rfl rfl)
theorem dX3_blankShare_5 : decode cX3_blankShare 5 = .ok (.invokevirtual 250, 3) := dk_182 0 250 (dk_at dksX3_blankShare_0 5 rfl rfl)
theorem dX3_blankShare_8 : decode cX3_blankShare 8 = .ok (.ifCond .eq 7, 3) := dk_153 0 7 (dk_at dksX3_blankShare_0 8 rfl rfl)
theorem dX3_blankShare_11 : decode cX3_blankShare 11 = .ok (.iconst 1, 1) := dk_4 (dk_at dksX3_blankShare_0 11 rfl rfl)
theorem dX3_blankShare_12 : decode cX3_blankShare 12 = .ok (.goto 4, 3) := dk_167 0 4 (dk_at dksX3_blankShare_0 12 rfl rfl)
theorem dX3_blankShare_15 : decode cX3_blankShare 15 = .ok (.iconst 0, 1) := dk_3 (dk_at dksX3_blankShare_0 15 rfl rfl)
theorem dX3_blankShare_16 : decode cX3_blankShare 16 = .ok (.invokevirtual 230, 3) := dk_182 0 230 (dk_at dksX3_blankShare_0 16 rfl rfl)
theorem dX3_blankShare_19 : decode cX3_blankShare 19 = .ok (.ifCond .eq 5, 3) := dk_153 0 5 (dk_at dksX3_blankShare_0 19 rfl rfl)
theorem dX3_blankShare_22 : decode cX3_blankShare 22 = .ok (.fconst 0, 1) := dk_11 (dk_at dksX3_blankShare_0 22 rfl rfl)
theorem dX3_blankShare_23 : decode cX3_blankShare 23 = .ok (.freturn, 1) := dk_174 (dk_at dksX3_blankShare_0 23 rfl rfl)
theorem dX3_blankShare_24 : decode cX3_blankShare 24 = .ok (.iconst 0, 1) := dk_3 (dk_at dksX3_blankShare_1 0 rfl rfl)
theorem dX3_blankShare_25 : decode cX3_blankShare 25 = .ok (.istore_n 1, 1) := dk_60 (dk_at dksX3_blankShare_1 1 rfl rfl)
theorem dX3_blankShare_26 : decode cX3_blankShare 26 = .ok (.iconst 0, 1) := dk_3 (dk_at dksX3_blankShare_1 2 rfl rfl)
theorem dX3_blankShare_27 : decode cX3_blankShare 27 = .ok (.istore_n 2, 1) := dk_61 (dk_at dksX3_blankShare_1 3 rfl rfl)
theorem dX3_blankShare_28 : decode cX3_blankShare 28 = .ok (.iload_n 2, 1) := dk_28 (dk_at dksX3_blankShare_1 4 rfl rfl)
theorem dX3_blankShare_29 : decode cX3_blankShare 29 = .ok (.aload_n 0, 1) := dk_42 (dk_at dksX3_blankShare_1 5 rfl rfl)
theorem dX3_blankShare_30 : decode cX3_blankShare 30 = .ok (.invokevirtual 296, 3) := dk_182 1 40 (dk_at dksX3_blankShare_1 6 rfl rfl)
theorem dX3_blankShare_33 : decode cX3_blankShare 33 = .ok (.invokevirtual 150, 3) := dk_182 0 150 (dk_at dksX3_blankShare_1 9 rfl rfl)
theorem dX3_blankShare_36 : decode cX3_blankShare 36 = .ok (.if_icmp .ge 30, 3) := dk_162 0 30 (dk_at dksX3_blankShare_1 12 rfl rfl)
theorem dX3_blankShare_39 : decode cX3_blankShare 39 = .ok (.iload_n 1, 1) := dk_27 (dk_at dksX3_blankShare_1 15 rfl rfl)
theorem dX3_blankShare_40 : decode cX3_blankShare 40 = .ok (.aload_n 0, 1) := dk_42 (dk_at dksX3_blankShare_1 16 rfl rfl)
theorem dX3_blankShare_41 : decode cX3_blankShare 41 = .ok (.invokevirtual 296, 3) := dk_182 1 40 (dk_at dksX3_blankShare_1 17 rfl rfl)
theorem dX3_blankShare_44 : decode cX3_blankShare 44 = .ok (.getfield 129, 3) := dk_180 0 129 (dk_at dksX3_blankShare_1 20 rfl rfl)
theorem dX3_blankShare_47 : decode cX3_blankShare 47 = .ok (.iload_n 2, 1) := dk_28 (dk_at dksX3_blankShare_1 23 rfl rfl)
theorem dX3_blankShare_48 : decode cX3_blankShare 48 = .ok (.iaload, 1) := dk_46 (dk_at dksX3_blankShare_2 0 rfl rfl)
theorem dX3_blankShare_49 : decode cX3_blankShare 49 = .ok (.iconst (-1), 1) := dk_2 (dk_at dksX3_blankShare_2 1 rfl rfl)
theorem dX3_blankShare_50 : decode cX3_blankShare 50 = .ok (.if_icmp .ne 7, 3) := dk_160 0 7 (dk_at dksX3_blankShare_2 2 rfl rfl)
theorem dX3_blankShare_53 : decode cX3_blankShare 53 = .ok (.iconst 1, 1) := dk_4 (dk_at dksX3_blankShare_2 5 rfl rfl)
theorem dX3_blankShare_54 : decode cX3_blankShare 54 = .ok (.goto 4, 3) := dk_167 0 4 (dk_at dksX3_blankShare_2 6 rfl rfl)
theorem dX3_blankShare_57 : decode cX3_blankShare 57 = .ok (.iconst 0, 1) := dk_3 (dk_at dksX3_blankShare_2 9 rfl rfl)
theorem dX3_blankShare_58 : decode cX3_blankShare 58 = .ok (.iadd, 1) := dk_96 (dk_at dksX3_blankShare_2 10 rfl rfl)
theorem dX3_blankShare_59 : decode cX3_blankShare 59 = .ok (.istore_n 1, 1) := dk_60 (dk_at dksX3_blankShare_2 11 rfl rfl)
theorem dX3_blankShare_60 : decode cX3_blankShare 60 = .ok (.iinc 2 1, 3) := dk_132 2 1 (dk_at dksX3_blankShare_2 12 rfl rfl)
theorem dX3_blankShare_63 : decode cX3_blankShare 63 = .ok (.goto (-35), 3) := dk_167 255 221 (dk_at dksX3_blankShare_2 15 rfl rfl)
theorem dX3_blankShare_66 : decode cX3_blankShare 66 = .ok (.iload_n 1, 1) := dk_27 (dk_at dksX3_blankShare_2 18 rfl rfl)
theorem dX3_blankShare_67 : decode cX3_blankShare 67 = .ok (.i2f, 1) := dk_134 (dk_at dksX3_blankShare_2 19 rfl rfl)
theorem dX3_blankShare_68 : decode cX3_blankShare 68 = .ok (.aload_n 0, 1) := dk_42 (dk_at dksX3_blankShare_2 20 rfl rfl)
theorem dX3_blankShare_69 : decode cX3_blankShare 69 = .ok (.invokevirtual 296, 3) := dk_182 1 40 (dk_at dksX3_blankShare_2 21 rfl rfl)
theorem dX3_blankShare_72 : decode cX3_blankShare 72 = .ok (.invokevirtual 150, 3) := dk_182 0 150 (dk_at dksX3_blankShare_3 0 rfl rfl)
theorem dX3_blankShare_75 : decode cX3_blankShare 75 = .ok (.i2f, 1) := dk_134 (dk_at dksX3_blankShare_3 3 rfl rfl)
theorem dX3_blankShare_76 : decode cX3_blankShare 76 = .ok (.fdiv, 1) := dk_110 (dk_at dksX3_blankShare_3 4 rfl rfl)
theorem dX3_blankShare_77 : decode cX3_blankShare 77 = .ok (.freturn, 1) := dk_174 (dk_at dksX3_blankShare_3 5 rfl rfl)
abbrev cX3_meanBoxes : ByteArray := prog_15_method_78_code
def yX3_meanBoxes : MethodName := ⟨RX3, "meanBoxes", "()D"⟩
def dkwX3_meanBoxes_1 : List UInt8 := [180, 0, 94, 135, 42, 180, 1, 94, 135, 111, 175]
abbrev dktX3_meanBoxes_1 : List UInt8 := dkwX3_meanBoxes_1 ++ []
def dkwX3_meanBoxes_0 : List UInt8 := [42, 42, 180, 1, 94, 154, 0, 7, 4, 167, 0, 4, 3, 182, 0, 230, 153, 0, 7, 14, 167, 0, 14, 42]
abbrev dktX3_meanBoxes_0 : List UInt8 := dkwX3_meanBoxes_0 ++ dktX3_meanBoxes_1
theorem dksX3_meanBoxes_0 : cX3_meanBoxes.data.toList.drop 0 = dktX3_meanBoxes_0 := by decide +kernel
theorem dksX3_meanBoxes_1 : cX3_meanBoxes.data.toList.drop 24 = dktX3_meanBoxes_1 := dk_seg dksX3_meanBoxes_0 24 rfl rfl
theorem dX3_meanBoxes_0 : decode cX3_meanBoxes 0 = .ok (.aload_n 0, 1) := dk_42 (dk_at dksX3_meanBoxes_0 0 rfl rfl)
theorem dX3_meanBoxes_1 : decode cX3_meanBoxes 1 = .ok (.aload_n 0, 1) := dk_42 (dk_at dksX3_meanBoxes_0 1 rfl rfl)
theorem dX3_meanBoxes_2 : decode cX3_meanBoxes 2 = .ok (.getfield 350, 3) := dk_180 1 94 (dk_at dksX3_meanBoxes_0 2 rfl rfl)
theorem dX3_meanBoxes_5 : decode cX3_meanBoxes 5 = .ok (.ifCond .ne 7, 3) := dk_154 0 7 (dk_at dksX3_meanBoxes_0 5 rfl rfl)
theorem dX3_meanBoxes_8 : decode cX3_meanBoxes 8 = .ok (.iconst 1, 1) := dk_4 (dk_at dksX3_meanBoxes_0 8 rfl rfl)
theorem dX3_meanBoxes_9 : decode cX3_meanBoxes 9 = .ok (.goto 4, 3) := dk_167 0 4 (dk_at dksX3_meanBoxes_0 9 rfl rfl)
theorem dX3_meanBoxes_12 : decode cX3_meanBoxes 12 = .ok (.iconst 0, 1) := dk_3 (dk_at dksX3_meanBoxes_0 12 rfl rfl)
theorem dX3_meanBoxes_13 : decode cX3_meanBoxes 13 = .ok (.invokevirtual 230, 3) := dk_182 0 230 (dk_at dksX3_meanBoxes_0 13 rfl rfl)
theorem dX3_meanBoxes_16 : decode cX3_meanBoxes 16 = .ok (.ifCond .eq 7, 3) := dk_153 0 7 (dk_at dksX3_meanBoxes_0 16 rfl rfl)
theorem dX3_meanBoxes_19 : decode cX3_meanBoxes 19 = .ok (.dconst 0, 1) := dk_14 (dk_at dksX3_meanBoxes_0 19 rfl rfl)
theorem dX3_meanBoxes_20 : decode cX3_meanBoxes 20 = .ok (.goto 14, 3) := dk_167 0 14 (dk_at dksX3_meanBoxes_0 20 rfl rfl)
theorem dX3_meanBoxes_23 : decode cX3_meanBoxes 23 = .ok (.aload_n 0, 1) := dk_42 (dk_at dksX3_meanBoxes_0 23 rfl rfl)
theorem dX3_meanBoxes_24 : decode cX3_meanBoxes 24 = .ok (.getfield 94, 3) := dk_180 0 94 (dk_at dksX3_meanBoxes_1 0 rfl rfl)
theorem dX3_meanBoxes_27 : decode cX3_meanBoxes 27 = .ok (.i2d, 1) := dk_135 (dk_at dksX3_meanBoxes_1 3 rfl rfl)
theorem dX3_meanBoxes_28 : decode cX3_meanBoxes 28 = .ok (.aload_n 0, 1) := dk_42 (dk_at dksX3_meanBoxes_1 4 rfl rfl)
theorem dX3_meanBoxes_29 : decode cX3_meanBoxes 29 = .ok (.getfield 350, 3) := dk_180 1 94 (dk_at dksX3_meanBoxes_1 5 rfl rfl)
theorem dX3_meanBoxes_32 : decode cX3_meanBoxes 32 = .ok (.i2d, 1) := dk_135 (dk_at dksX3_meanBoxes_1 8 rfl rfl)
theorem dX3_meanBoxes_33 : decode cX3_meanBoxes 33 = .ok (.ddiv, 1) := dk_111 (dk_at dksX3_meanBoxes_1 9 rfl rfl)
theorem dX3_meanBoxes_34 : decode cX3_meanBoxes 34 = .ok (.dreturn, 1) := dk_175 (dk_at dksX3_meanBoxes_1 10 rfl rfl)
abbrev cX3_checksum : ByteArray := prog_15_method_79_code
def yX3_checksum : MethodName := ⟨RX3, "checksum", "()J"⟩
def dkwX3_checksum_10 : List UInt8 := [31, 173]
abbrev dktX3_checksum_10 : List UInt8 := dkwX3_checksum_10 ++ []
def dkwX3_checksum_9 : List UInt8 := [192, 0, 130, 180, 0, 192, 182, 0, 69, 192, 0, 47, 180, 0, 82, 133, 97, 64, 132, 3, 1, 167, 255, 166]
abbrev dktX3_checksum_9 : List UInt8 := dkwX3_checksum_9 ++ dktX3_checksum_10
def dkwX3_checksum_8 : List UInt8 := [21, 4, 2, 160, 0, 7, 3, 167, 0, 31, 42, 180, 0, 10, 42, 180, 0, 28, 21, 4, 182, 0, 69]
abbrev dktX3_checksum_8 : List UInt8 := dkwX3_checksum_8 ++ dktX3_checksum_9
def dkwX3_checksum_7 : List UInt8 := [180, 0, 178, 54, 4, 20, 1, 147, 20, 1, 147, 31, 105, 42, 29, 182, 0, 207, 182, 0, 56, 133, 97, 105]
abbrev dktX3_checksum_7 : List UInt8 := dkwX3_checksum_7 ++ dktX3_checksum_8
def dkwX3_checksum_6 : List UInt8 := [3, 62, 29, 42, 180, 0, 22, 182, 0, 56, 162, 0, 85, 42, 180, 0, 22, 29, 182, 0, 69, 192, 0, 157]
abbrev dktX3_checksum_6 : List UInt8 := dkwX3_checksum_6 ++ dktX3_checksum_7
def dkwX3_checksum_5 : List UInt8 := [180, 0, 82, 133, 97, 105, 42, 182, 1, 40, 180, 0, 139, 29, 46, 133, 97, 64, 132, 3, 1, 167, 255, 165]
abbrev dktX3_checksum_5 : List UInt8 := dkwX3_checksum_5 ++ dktX3_checksum_6
def dkwX3_checksum_4 : List UInt8 := [20, 1, 147, 31, 105, 42, 180, 0, 10, 42, 182, 1, 40, 180, 0, 129, 29, 46, 182, 0, 69, 192, 0, 47]
abbrev dktX3_checksum_4 : List UInt8 := dkwX3_checksum_4 ++ dktX3_checksum_5
def dkwX3_checksum_3 : List UInt8 := [182, 1, 40, 180, 0, 129, 29, 46, 2, 160, 0, 12, 20, 1, 147, 31, 105, 64, 167, 0, 48, 20, 1, 147]
abbrev dktX3_checksum_3 : List UInt8 := dkwX3_checksum_3 ++ dktX3_checksum_4
def dkwX3_checksum_2 : List UInt8 := [42, 180, 0, 28, 182, 0, 250, 154, 0, 87, 29, 42, 182, 1, 40, 182, 0, 150, 162, 0, 76, 42]
abbrev dktX3_checksum_2 : List UInt8 := dkwX3_checksum_2 ++ dktX3_checksum_3
def dkwX3_checksum_1 : List UInt8 := [182, 0, 250, 153, 0, 7, 2, 167, 0, 12, 42, 180, 0, 28, 182, 0, 56, 4, 100, 133, 97, 64, 3, 62]
abbrev dktX3_checksum_1 : List UInt8 := dkwX3_checksum_1 ++ dktX3_checksum_2
def dkwX3_checksum_0 : List UInt8 := [42, 3, 181, 0, 41, 20, 1, 147, 20, 1, 149, 42, 180, 0, 37, 133, 97, 105, 42, 180, 0, 28]
abbrev dktX3_checksum_0 : List UInt8 := dkwX3_checksum_0 ++ dktX3_checksum_1
theorem dksX3_checksum_0 : cX3_checksum.data.toList.drop 0 = dktX3_checksum_0 := by decide +kernel
theorem dksX3_checksum_1 : cX3_checksum.data.toList.drop 22 = dktX3_checksum_1 := dk_seg dksX3_checksum_0 22 rfl rfl
theorem dksX3_checksum_2 : cX3_checksum.data.toList.drop 46 = dktX3_checksum_2 := dk_seg dksX3_checksum_1 24 rfl rfl
theorem dksX3_checksum_3 : cX3_checksum.data.toList.drop 68 = dktX3_checksum_3 := dk_seg dksX3_checksum_2 22 rfl rfl
theorem dksX3_checksum_4 : cX3_checksum.data.toList.drop 92 = dktX3_checksum_4 := dk_seg dksX3_checksum_3 24 rfl rfl
theorem dksX3_checksum_5 : cX3_checksum.data.toList.drop 116 = dktX3_checksum_5 := dk_seg dksX3_checksum_4 24 rfl rfl
theorem dksX3_checksum_6 : cX3_checksum.data.toList.drop 140 = dktX3_checksum_6 := dk_seg dksX3_checksum_5 24 rfl rfl
theorem dksX3_checksum_7 : cX3_checksum.data.toList.drop 164 = dktX3_checksum_7 := dk_seg dksX3_checksum_6 24 rfl rfl
theorem dksX3_checksum_8 : cX3_checksum.data.toList.drop 188 = dktX3_checksum_8 := dk_seg dksX3_checksum_7 24 rfl rfl
theorem dksX3_checksum_9 : cX3_checksum.data.toList.drop 211 = dktX3_checksum_9 := dk_seg dksX3_checksum_8 23 rfl rfl
theorem dksX3_checksum_10 : cX3_checksum.data.toList.drop 235 = dktX3_checksum_10 := dk_seg dksX3_checksum_9 24 rfl rfl
theorem dX3_checksum_0 : decode cX3_checksum 0 = .ok (.aload_n 0, 1) := dk_42 (dk_at dksX3_checksum_0 0 rfl rfl)
theorem dX3_checksum_1 : decode cX3_checksum 1 = .ok (.iconst 0, 1) := dk_3 (dk_at dksX3_checksum_0 1 rfl rfl)
theorem dX3_checksum_2 : decode cX3_checksum 2 = .ok (.putfield 41, 3) := dk_181 0 41 (dk_at dksX3_checksum_0 2 rfl rfl)
theorem dX3_checksum_5 : decode cX3_checksum 5 = .ok (.ldc2_w 403, 3) := dk_20 1 147 (dk_at dksX3_checksum_0 5 rfl rfl)
theorem dX3_checksum_8 : decode cX3_checksum 8 = .ok (.ldc2_w 405, 3) := dk_20 1 149 (dk_at dksX3_checksum_0 8 rfl rfl)
theorem dX3_checksum_11 : decode cX3_checksum 11 = .ok (.aload_n 0, 1) := dk_42 (dk_at dksX3_checksum_0 11 rfl rfl)
theorem dX3_checksum_12 : decode cX3_checksum 12 = .ok (.getfield 37, 3) := dk_180 0 37 (dk_at dksX3_checksum_0 12 rfl rfl)
theorem dX3_checksum_15 : decode cX3_checksum 15 = .ok (.i2l, 1) := dk_133 (dk_at dksX3_checksum_0 15 rfl rfl)
theorem dX3_checksum_16 : decode cX3_checksum 16 = .ok (.ladd, 1) := dk_97 (dk_at dksX3_checksum_0 16 rfl rfl)
theorem dX3_checksum_17 : decode cX3_checksum 17 = .ok (.lmul, 1) := dk_105 (dk_at dksX3_checksum_0 17 rfl rfl)
theorem dX3_checksum_18 : decode cX3_checksum 18 = .ok (.aload_n 0, 1) := dk_42 (dk_at dksX3_checksum_0 18 rfl rfl)
theorem dX3_checksum_19 : decode cX3_checksum 19 = .ok (.getfield 28, 3) := dk_180 0 28 (dk_at dksX3_checksum_0 19 rfl rfl)
theorem dX3_checksum_22 : decode cX3_checksum 22 = .ok (.invokevirtual 250, 3) := dk_182 0 250 (dk_at dksX3_checksum_1 0 rfl rfl)
theorem dX3_checksum_25 : decode cX3_checksum 25 = .ok (.ifCond .eq 7, 3) := dk_153 0 7 (dk_at dksX3_checksum_1 3 rfl rfl)
theorem dX3_checksum_28 : decode cX3_checksum 28 = .ok (.iconst (-1), 1) := dk_2 (dk_at dksX3_checksum_1 6 rfl rfl)
theorem dX3_checksum_29 : decode cX3_checksum 29 = .ok (.goto 12, 3) := dk_167 0 12 (dk_at dksX3_checksum_1 7 rfl rfl)
theorem dX3_checksum_32 : decode cX3_checksum 32 = .ok (.aload_n 0, 1) := dk_42 (dk_at dksX3_checksum_1 10 rfl rfl)
theorem dX3_checksum_33 : decode cX3_checksum 33 = .ok (.getfield 28, 3) := dk_180 0 28 (dk_at dksX3_checksum_1 11 rfl rfl)
theorem dX3_checksum_36 : decode cX3_checksum 36 = .ok (.invokevirtual 56, 3) := dk_182 0 56 (dk_at dksX3_checksum_1 14 rfl rfl)
theorem dX3_checksum_39 : decode cX3_checksum 39 = .ok (.iconst 1, 1) := dk_4 (dk_at dksX3_checksum_1 17 rfl rfl)
theorem dX3_checksum_40 : decode cX3_checksum 40 = .ok (.isub, 1) := dk_100 (dk_at dksX3_checksum_1 18 rfl rfl)
theorem dX3_checksum_41 : decode cX3_checksum 41 = .ok (.i2l, 1) := dk_133 (dk_at dksX3_checksum_1 19 rfl rfl)
theorem dX3_checksum_42 : decode cX3_checksum 42 = .ok (.ladd, 1) := dk_97 (dk_at dksX3_checksum_1 20 rfl rfl)
theorem dX3_checksum_43 : decode cX3_checksum 43 = .ok (.lstore_n 1, 1) := dk_64 (dk_at dksX3_checksum_1 21 rfl rfl)
theorem dX3_checksum_44 : decode cX3_checksum 44 = .ok (.iconst 0, 1) := dk_3 (dk_at dksX3_checksum_1 22 rfl rfl)
theorem dX3_checksum_45 : decode cX3_checksum 45 = .ok (.istore_n 3, 1) := dk_62 (dk_at dksX3_checksum_1 23 rfl rfl)
theorem dX3_checksum_46 : decode cX3_checksum 46 = .ok (.aload_n 0, 1) := dk_42 (dk_at dksX3_checksum_2 0 rfl rfl)
theorem dX3_checksum_47 : decode cX3_checksum 47 = .ok (.getfield 28, 3) := dk_180 0 28 (dk_at dksX3_checksum_2 1 rfl rfl)
theorem dX3_checksum_50 : decode cX3_checksum 50 = .ok (.invokevirtual 250, 3) := dk_182 0 250 (dk_at dksX3_checksum_2 4 rfl rfl)
theorem dX3_checksum_53 : decode cX3_checksum 53 = .ok (.ifCond .ne 87, 3) := dk_154 0 87 (dk_at dksX3_checksum_2 7 rfl rfl)
theorem dX3_checksum_56 : decode cX3_checksum 56 = .ok (.iload_n 3, 1) := dk_29 (dk_at dksX3_checksum_2 10 rfl rfl)
theorem dX3_checksum_57 : decode cX3_checksum 57 = .ok (.aload_n 0, 1) := dk_42 (dk_at dksX3_checksum_2 11 rfl rfl)
theorem dX3_checksum_58 : decode cX3_checksum 58 = .ok (.invokevirtual 296, 3) := dk_182 1 40 (dk_at dksX3_checksum_2 12 rfl rfl)
theorem dX3_checksum_61 : decode cX3_checksum 61 = .ok (.invokevirtual 150, 3) := dk_182 0 150 (dk_at dksX3_checksum_2 15 rfl rfl)
theorem dX3_checksum_64 : decode cX3_checksum 64 = .ok (.if_icmp .ge 76, 3) := dk_162 0 76 (dk_at dksX3_checksum_2 18 rfl rfl)
theorem dX3_checksum_67 : decode cX3_checksum 67 = .ok (.aload_n 0, 1) := dk_42 (dk_at dksX3_checksum_2 21 rfl rfl)
theorem dX3_checksum_68 : decode cX3_checksum 68 = .ok (.invokevirtual 296, 3) := dk_182 1 40 (dk_at dksX3_checksum_3 0 rfl rfl)
theorem dX3_checksum_71 : decode cX3_checksum 71 = .ok (.getfield 129, 3) := dk_180 0 129 (dk_at dksX3_checksum_3 3 rfl rfl)
theorem dX3_checksum_74 : decode cX3_checksum 74 = .ok (.iload_n 3, 1) := dk_29 (dk_at dksX3_checksum_3 6 rfl rfl)
theorem dX3_checksum_75 : decode cX3_checksum 75 = .ok (.iaload, 1) := dk_46 (dk_at dksX3_checksum_3 7 rfl rfl)
theorem dX3_checksum_76 : decode cX3_checksum 76 = .ok (.iconst (-1), 1) := dk_2 (dk_at dksX3_checksum_3 8 rfl rfl)
theorem dX3_checksum_77 : decode cX3_checksum 77 = .ok (.if_icmp .ne 12, 3) := dk_160 0 12 (dk_at dksX3_checksum_3 9 rfl rfl)
theorem dX3_checksum_80 : decode cX3_checksum 80 = .ok (.ldc2_w 403, 3) := dk_20 1 147 (dk_at dksX3_checksum_3 12 rfl rfl)
theorem dX3_checksum_83 : decode cX3_checksum 83 = .ok (.lload_n 1, 1) := dk_31 (dk_at dksX3_checksum_3 15 rfl rfl)
theorem dX3_checksum_84 : decode cX3_checksum 84 = .ok (.lmul, 1) := dk_105 (dk_at dksX3_checksum_3 16 rfl rfl)
theorem dX3_checksum_85 : decode cX3_checksum 85 = .ok (.lstore_n 1, 1) := dk_64 (dk_at dksX3_checksum_3 17 rfl rfl)
theorem dX3_checksum_86 : decode cX3_checksum 86 = .ok (.goto 48, 3) := dk_167 0 48 (dk_at dksX3_checksum_3 18 rfl rfl)
theorem dX3_checksum_89 : decode cX3_checksum 89 = .ok (.ldc2_w 403, 3) := dk_20 1 147 (dk_at dksX3_checksum_3 21 rfl rfl)
theorem dX3_checksum_92 : decode cX3_checksum 92 = .ok (.ldc2_w 403, 3) := dk_20 1 147 (dk_at dksX3_checksum_4 0 rfl rfl)
theorem dX3_checksum_95 : decode cX3_checksum 95 = .ok (.lload_n 1, 1) := dk_31 (dk_at dksX3_checksum_4 3 rfl rfl)
theorem dX3_checksum_96 : decode cX3_checksum 96 = .ok (.lmul, 1) := dk_105 (dk_at dksX3_checksum_4 4 rfl rfl)
theorem dX3_checksum_97 : decode cX3_checksum 97 = .ok (.aload_n 0, 1) := dk_42 (dk_at dksX3_checksum_4 5 rfl rfl)
theorem dX3_checksum_98 : decode cX3_checksum 98 = .ok (.getfield 10, 3) := dk_180 0 10 (dk_at dksX3_checksum_4 6 rfl rfl)
theorem dX3_checksum_101 : decode cX3_checksum 101 = .ok (.aload_n 0, 1) := dk_42 (dk_at dksX3_checksum_4 9 rfl rfl)
theorem dX3_checksum_102 : decode cX3_checksum 102 = .ok (.invokevirtual 296, 3) := dk_182 1 40 (dk_at dksX3_checksum_4 10 rfl rfl)
theorem dX3_checksum_105 : decode cX3_checksum 105 = .ok (.getfield 129, 3) := dk_180 0 129 (dk_at dksX3_checksum_4 13 rfl rfl)
theorem dX3_checksum_108 : decode cX3_checksum 108 = .ok (.iload_n 3, 1) := dk_29 (dk_at dksX3_checksum_4 16 rfl rfl)
theorem dX3_checksum_109 : decode cX3_checksum 109 = .ok (.iaload, 1) := dk_46 (dk_at dksX3_checksum_4 17 rfl rfl)
theorem dX3_checksum_110 : decode cX3_checksum 110 = .ok (.invokevirtual 69, 3) := dk_182 0 69 (dk_at dksX3_checksum_4 18 rfl rfl)
theorem dX3_checksum_113 : decode cX3_checksum 113 = .ok (.checkcast 47, 3) := dk_192 0 47 (dk_at dksX3_checksum_4 21 rfl rfl)
theorem dX3_checksum_116 : decode cX3_checksum 116 = .ok (.getfield 82, 3) := dk_180 0 82 (dk_at dksX3_checksum_5 0 rfl rfl)
theorem dX3_checksum_119 : decode cX3_checksum 119 = .ok (.i2l, 1) := dk_133 (dk_at dksX3_checksum_5 3 rfl rfl)
theorem dX3_checksum_120 : decode cX3_checksum 120 = .ok (.ladd, 1) := dk_97 (dk_at dksX3_checksum_5 4 rfl rfl)
theorem dX3_checksum_121 : decode cX3_checksum 121 = .ok (.lmul, 1) := dk_105 (dk_at dksX3_checksum_5 5 rfl rfl)
theorem dX3_checksum_122 : decode cX3_checksum 122 = .ok (.aload_n 0, 1) := dk_42 (dk_at dksX3_checksum_5 6 rfl rfl)
theorem dX3_checksum_123 : decode cX3_checksum 123 = .ok (.invokevirtual 296, 3) := dk_182 1 40 (dk_at dksX3_checksum_5 7 rfl rfl)
theorem dX3_checksum_126 : decode cX3_checksum 126 = .ok (.getfield 139, 3) := dk_180 0 139 (dk_at dksX3_checksum_5 10 rfl rfl)
theorem dX3_checksum_129 : decode cX3_checksum 129 = .ok (.iload_n 3, 1) := dk_29 (dk_at dksX3_checksum_5 13 rfl rfl)
theorem dX3_checksum_130 : decode cX3_checksum 130 = .ok (.iaload, 1) := dk_46 (dk_at dksX3_checksum_5 14 rfl rfl)
theorem dX3_checksum_131 : decode cX3_checksum 131 = .ok (.i2l, 1) := dk_133 (dk_at dksX3_checksum_5 15 rfl rfl)
theorem dX3_checksum_132 : decode cX3_checksum 132 = .ok (.ladd, 1) := dk_97 (dk_at dksX3_checksum_5 16 rfl rfl)
theorem dX3_checksum_133 : decode cX3_checksum 133 = .ok (.lstore_n 1, 1) := dk_64 (dk_at dksX3_checksum_5 17 rfl rfl)
theorem dX3_checksum_134 : decode cX3_checksum 134 = .ok (.iinc 3 1, 3) := dk_132 3 1 (dk_at dksX3_checksum_5 18 rfl rfl)
theorem dX3_checksum_137 : decode cX3_checksum 137 = .ok (.goto (-91), 3) := dk_167 255 165 (dk_at dksX3_checksum_5 21 rfl rfl)
theorem dX3_checksum_140 : decode cX3_checksum 140 = .ok (.iconst 0, 1) := dk_3 (dk_at dksX3_checksum_6 0 rfl rfl)
theorem dX3_checksum_141 : decode cX3_checksum 141 = .ok (.istore_n 3, 1) := dk_62 (dk_at dksX3_checksum_6 1 rfl rfl)
theorem dX3_checksum_142 : decode cX3_checksum 142 = .ok (.iload_n 3, 1) := dk_29 (dk_at dksX3_checksum_6 2 rfl rfl)
theorem dX3_checksum_143 : decode cX3_checksum 143 = .ok (.aload_n 0, 1) := dk_42 (dk_at dksX3_checksum_6 3 rfl rfl)
theorem dX3_checksum_144 : decode cX3_checksum 144 = .ok (.getfield 22, 3) := dk_180 0 22 (dk_at dksX3_checksum_6 4 rfl rfl)
theorem dX3_checksum_147 : decode cX3_checksum 147 = .ok (.invokevirtual 56, 3) := dk_182 0 56 (dk_at dksX3_checksum_6 7 rfl rfl)
theorem dX3_checksum_150 : decode cX3_checksum 150 = .ok (.if_icmp .ge 85, 3) := dk_162 0 85 (dk_at dksX3_checksum_6 10 rfl rfl)
theorem dX3_checksum_153 : decode cX3_checksum 153 = .ok (.aload_n 0, 1) := dk_42 (dk_at dksX3_checksum_6 13 rfl rfl)
theorem dX3_checksum_154 : decode cX3_checksum 154 = .ok (.getfield 22, 3) := dk_180 0 22 (dk_at dksX3_checksum_6 14 rfl rfl)
theorem dX3_checksum_157 : decode cX3_checksum 157 = .ok (.iload_n 3, 1) := dk_29 (dk_at dksX3_checksum_6 17 rfl rfl)
theorem dX3_checksum_158 : decode cX3_checksum 158 = .ok (.invokevirtual 69, 3) := dk_182 0 69 (dk_at dksX3_checksum_6 18 rfl rfl)
theorem dX3_checksum_161 : decode cX3_checksum 161 = .ok (.checkcast 157, 3) := dk_192 0 157 (dk_at dksX3_checksum_6 21 rfl rfl)
theorem dX3_checksum_164 : decode cX3_checksum 164 = .ok (.getfield 178, 3) := dk_180 0 178 (dk_at dksX3_checksum_7 0 rfl rfl)
theorem dX3_checksum_167 : decode cX3_checksum 167 = .ok (.istore 4, 2) := dk_54 4 (dk_at dksX3_checksum_7 3 rfl rfl)
theorem dX3_checksum_169 : decode cX3_checksum 169 = .ok (.ldc2_w 403, 3) := dk_20 1 147 (dk_at dksX3_checksum_7 5 rfl rfl)
theorem dX3_checksum_172 : decode cX3_checksum 172 = .ok (.ldc2_w 403, 3) := dk_20 1 147 (dk_at dksX3_checksum_7 8 rfl rfl)
theorem dX3_checksum_175 : decode cX3_checksum 175 = .ok (.lload_n 1, 1) := dk_31 (dk_at dksX3_checksum_7 11 rfl rfl)
theorem dX3_checksum_176 : decode cX3_checksum 176 = .ok (.lmul, 1) := dk_105 (dk_at dksX3_checksum_7 12 rfl rfl)
theorem dX3_checksum_177 : decode cX3_checksum 177 = .ok (.aload_n 0, 1) := dk_42 (dk_at dksX3_checksum_7 13 rfl rfl)
theorem dX3_checksum_178 : decode cX3_checksum 178 = .ok (.iload_n 3, 1) := dk_29 (dk_at dksX3_checksum_7 14 rfl rfl)
theorem dX3_checksum_179 : decode cX3_checksum 179 = .ok (.invokevirtual 207, 3) := dk_182 0 207 (dk_at dksX3_checksum_7 15 rfl rfl)
theorem dX3_checksum_182 : decode cX3_checksum 182 = .ok (.invokevirtual 56, 3) := dk_182 0 56 (dk_at dksX3_checksum_7 18 rfl rfl)
theorem dX3_checksum_185 : decode cX3_checksum 185 = .ok (.i2l, 1) := dk_133 (dk_at dksX3_checksum_7 21 rfl rfl)
theorem dX3_checksum_186 : decode cX3_checksum 186 = .ok (.ladd, 1) := dk_97 (dk_at dksX3_checksum_7 22 rfl rfl)
theorem dX3_checksum_187 : decode cX3_checksum 187 = .ok (.lmul, 1) := dk_105 (dk_at dksX3_checksum_7 23 rfl rfl)
theorem dX3_checksum_188 : decode cX3_checksum 188 = .ok (.iload 4, 2) := dk_21 4 (dk_at dksX3_checksum_8 0 rfl rfl)
theorem dX3_checksum_190 : decode cX3_checksum 190 = .ok (.iconst (-1), 1) := dk_2 (dk_at dksX3_checksum_8 2 rfl rfl)
theorem dX3_checksum_191 : decode cX3_checksum 191 = .ok (.if_icmp .ne 7, 3) := dk_160 0 7 (dk_at dksX3_checksum_8 3 rfl rfl)
theorem dX3_checksum_194 : decode cX3_checksum 194 = .ok (.iconst 0, 1) := dk_3 (dk_at dksX3_checksum_8 6 rfl rfl)
theorem dX3_checksum_195 : decode cX3_checksum 195 = .ok (.goto 31, 3) := dk_167 0 31 (dk_at dksX3_checksum_8 7 rfl rfl)
theorem dX3_checksum_198 : decode cX3_checksum 198 = .ok (.aload_n 0, 1) := dk_42 (dk_at dksX3_checksum_8 10 rfl rfl)
theorem dX3_checksum_199 : decode cX3_checksum 199 = .ok (.getfield 10, 3) := dk_180 0 10 (dk_at dksX3_checksum_8 11 rfl rfl)
theorem dX3_checksum_202 : decode cX3_checksum 202 = .ok (.aload_n 0, 1) := dk_42 (dk_at dksX3_checksum_8 14 rfl rfl)
theorem dX3_checksum_203 : decode cX3_checksum 203 = .ok (.getfield 28, 3) := dk_180 0 28 (dk_at dksX3_checksum_8 15 rfl rfl)
theorem dX3_checksum_206 : decode cX3_checksum 206 = .ok (.iload 4, 2) := dk_21 4 (dk_at dksX3_checksum_8 18 rfl rfl)
theorem dX3_checksum_208 : decode cX3_checksum 208 = .ok (.invokevirtual 69, 3) := dk_182 0 69 (dk_at dksX3_checksum_8 20 rfl rfl)
theorem dX3_checksum_211 : decode cX3_checksum 211 = .ok (.checkcast 130, 3) := dk_192 0 130 (dk_at dksX3_checksum_9 0 rfl rfl)
theorem dX3_checksum_214 : decode cX3_checksum 214 = .ok (.getfield 192, 3) := dk_180 0 192 (dk_at dksX3_checksum_9 3 rfl rfl)
theorem dX3_checksum_217 : decode cX3_checksum 217 = .ok (.invokevirtual 69, 3) := dk_182 0 69 (dk_at dksX3_checksum_9 6 rfl rfl)
theorem dX3_checksum_220 : decode cX3_checksum 220 = .ok (.checkcast 47, 3) := dk_192 0 47 (dk_at dksX3_checksum_9 9 rfl rfl)
theorem dX3_checksum_223 : decode cX3_checksum 223 = .ok (.getfield 82, 3) := dk_180 0 82 (dk_at dksX3_checksum_9 12 rfl rfl)
theorem dX3_checksum_226 : decode cX3_checksum 226 = .ok (.i2l, 1) := dk_133 (dk_at dksX3_checksum_9 15 rfl rfl)
theorem dX3_checksum_227 : decode cX3_checksum 227 = .ok (.ladd, 1) := dk_97 (dk_at dksX3_checksum_9 16 rfl rfl)
theorem dX3_checksum_228 : decode cX3_checksum 228 = .ok (.lstore_n 1, 1) := dk_64 (dk_at dksX3_checksum_9 17 rfl rfl)
theorem dX3_checksum_229 : decode cX3_checksum 229 = .ok (.iinc 3 1, 3) := dk_132 3 1 (dk_at dksX3_checksum_9 18 rfl rfl)
theorem dX3_checksum_232 : decode cX3_checksum 232 = .ok (.goto (-90), 3) := dk_167 255 166 (dk_at dksX3_checksum_9 21 rfl rfl)
theorem dX3_checksum_235 : decode cX3_checksum 235 = .ok (.lload_n 1, 1) := dk_31 (dk_at dksX3_checksum_10 0 rfl rfl)
theorem dX3_checksum_236 : decode cX3_checksum 236 = .ok (.lreturn, 1) := dk_173 (dk_at dksX3_checksum_10 1 rfl rfl)
abbrev cX3_isSound : ByteArray := prog_15_method_81_code
def yX3_isSound : MethodName := ⟨RX3, "isSound", "()Z"⟩
def dkwX3_isSound_1 : List UInt8 := [182, 1, 151, 126, 60, 132, 2, 1, 167, 255, 234, 27, 172]
abbrev dktX3_isSound_1 : List UInt8 := dkwX3_isSound_1 ++ []
def dkwX3_isSound_0 : List UInt8 := [42, 3, 181, 0, 41, 4, 60, 3, 61, 28, 42, 180, 0, 22, 182, 0, 56, 162, 0, 17, 27, 42, 28]
abbrev dktX3_isSound_0 : List UInt8 := dkwX3_isSound_0 ++ dktX3_isSound_1
theorem dksX3_isSound_0 : cX3_isSound.data.toList.drop 0 = dktX3_isSound_0 := by decide +kernel
theorem dksX3_isSound_1 : cX3_isSound.data.toList.drop 23 = dktX3_isSound_1 := dk_seg dksX3_isSound_0 23 rfl rfl
theorem dX3_isSound_0 : decode cX3_isSound 0 = .ok (.aload_n 0, 1) := dk_42 (dk_at dksX3_isSound_0 0 rfl rfl)
theorem dX3_isSound_1 : decode cX3_isSound 1 = .ok (.iconst 0, 1) := dk_3 (dk_at dksX3_isSound_0 1 rfl rfl)
theorem dX3_isSound_2 : decode cX3_isSound 2 = .ok (.putfield 41, 3) := dk_181 0 41 (dk_at dksX3_isSound_0 2 rfl rfl)
theorem dX3_isSound_5 : decode cX3_isSound 5 = .ok (.iconst 1, 1) := dk_4 (dk_at dksX3_isSound_0 5 rfl rfl)
theorem dX3_isSound_6 : decode cX3_isSound 6 = .ok (.istore_n 1, 1) := dk_60 (dk_at dksX3_isSound_0 6 rfl rfl)
theorem dX3_isSound_7 : decode cX3_isSound 7 = .ok (.iconst 0, 1) := dk_3 (dk_at dksX3_isSound_0 7 rfl rfl)
theorem dX3_isSound_8 : decode cX3_isSound 8 = .ok (.istore_n 2, 1) := dk_61 (dk_at dksX3_isSound_0 8 rfl rfl)
theorem dX3_isSound_9 : decode cX3_isSound 9 = .ok (.iload_n 2, 1) := dk_28 (dk_at dksX3_isSound_0 9 rfl rfl)
theorem dX3_isSound_10 : decode cX3_isSound 10 = .ok (.aload_n 0, 1) := dk_42 (dk_at dksX3_isSound_0 10 rfl rfl)
theorem dX3_isSound_11 : decode cX3_isSound 11 = .ok (.getfield 22, 3) := dk_180 0 22 (dk_at dksX3_isSound_0 11 rfl rfl)
theorem dX3_isSound_14 : decode cX3_isSound 14 = .ok (.invokevirtual 56, 3) := dk_182 0 56 (dk_at dksX3_isSound_0 14 rfl rfl)
theorem dX3_isSound_17 : decode cX3_isSound 17 = .ok (.if_icmp .ge 17, 3) := dk_162 0 17 (dk_at dksX3_isSound_0 17 rfl rfl)
theorem dX3_isSound_20 : decode cX3_isSound 20 = .ok (.iload_n 1, 1) := dk_27 (dk_at dksX3_isSound_0 20 rfl rfl)
theorem dX3_isSound_21 : decode cX3_isSound 21 = .ok (.aload_n 0, 1) := dk_42 (dk_at dksX3_isSound_0 21 rfl rfl)
theorem dX3_isSound_22 : decode cX3_isSound 22 = .ok (.iload_n 2, 1) := dk_28 (dk_at dksX3_isSound_0 22 rfl rfl)
theorem dX3_isSound_23 : decode cX3_isSound 23 = .ok (.invokevirtual 407, 3) := dk_182 1 151 (dk_at dksX3_isSound_1 0 rfl rfl)
theorem dX3_isSound_26 : decode cX3_isSound 26 = .ok (.iand, 1) := dk_126 (dk_at dksX3_isSound_1 3 rfl rfl)
theorem dX3_isSound_27 : decode cX3_isSound 27 = .ok (.istore_n 1, 1) := dk_60 (dk_at dksX3_isSound_1 4 rfl rfl)
theorem dX3_isSound_28 : decode cX3_isSound 28 = .ok (.iinc 2 1, 3) := dk_132 2 1 (dk_at dksX3_isSound_1 5 rfl rfl)
theorem dX3_isSound_31 : decode cX3_isSound 31 = .ok (.goto (-22), 3) := dk_167 255 234 (dk_at dksX3_isSound_1 8 rfl rfl)
theorem dX3_isSound_34 : decode cX3_isSound 34 = .ok (.iload_n 1, 1) := dk_27 (dk_at dksX3_isSound_1 11 rfl rfl)
theorem dX3_isSound_35 : decode cX3_isSound 35 = .ok (.ireturn, 1) := dk_172 (dk_at dksX3_isSound_1 12 rfl rfl)
abbrev cX3_isRight : ByteArray := prog_15_method_80_code
def yX3_isRight : MethodName := ⟨RX3, "isRight", "(I)Z"⟩
def dkwX3_isRight_12 : List UInt8 := [54, 5, 132, 7, 1, 167, 255, 132, 21, 5, 172]
abbrev dktX3_isRight_12 : List UInt8 := dkwX3_isRight_12 ++ []
def dkwX3_isRight_11 : List UInt8 := [180, 0, 187, 21, 7, 46, 25, 6, 180, 0, 129, 21, 7, 46, 160, 0, 7, 4, 167, 0, 4, 3, 126]
abbrev dktX3_isRight_11 : List UInt8 := dkwX3_isRight_11 ++ dktX3_isRight_12
def dkwX3_isRight_10 : List UInt8 := [21, 7, 46, 2, 159, 0, 7, 4, 167, 0, 4, 3, 21, 8, 160, 0, 30, 21, 8, 153, 0, 21, 44]
abbrev dktX3_isRight_10 : List UInt8 := dkwX3_isRight_10 ++ dktX3_isRight_11
def dkwX3_isRight_9 : List UInt8 := [154, 0, 7, 4, 167, 0, 4, 3, 54, 8, 21, 5, 21, 7, 184, 0, 126, 153, 0, 47, 44, 180, 0, 187]
abbrev dktX3_isRight_9 : List UInt8 := dkwX3_isRight_9 ++ dktX3_isRight_10
def dkwX3_isRight_8 : List UInt8 := [21, 7, 46, 2, 159, 0, 25, 25, 6, 180, 0, 139, 21, 7, 46, 44, 180, 1, 4, 122, 4, 126]
abbrev dktX3_isRight_8 : List UInt8 := dkwX3_isRight_8 ++ dktX3_isRight_9
def dkwX3_isRight_7 : List UInt8 := [182, 0, 150, 162, 0, 120, 21, 7, 44, 180, 1, 4, 184, 0, 153, 153, 0, 37, 25, 6, 180, 0, 129]
abbrev dktX3_isRight_7 : List UInt8 := dkwX3_isRight_7 ++ dktX3_isRight_8
def dkwX3_isRight_6 : List UInt8 := [182, 1, 34, 154, 0, 6, 21, 5, 172, 42, 182, 1, 40, 58, 6, 3, 54, 7, 21, 7, 25, 6]
abbrev dktX3_isRight_6 : List UInt8 := dkwX3_isRight_6 ++ dktX3_isRight_7
def dkwX3_isRight_5 : List UInt8 := [25, 7, 180, 0, 192, 51, 154, 0, 7, 4, 167, 0, 4, 3, 126, 54, 5, 167, 255, 166, 42, 27]
abbrev dktX3_isRight_5 : List UInt8 := dkwX3_isRight_5 ++ dktX3_isRight_6
def dkwX3_isRight_4 : List UInt8 := [21, 5, 44, 180, 0, 178, 2, 159, 0, 26, 25, 7, 180, 0, 214, 44, 180, 0, 178, 162, 0, 14, 25, 4]
abbrev dktX3_isRight_4 : List UInt8 := dkwX3_isRight_4 ++ dktX3_isRight_5
def dkwX3_isRight_3 : List UInt8 := [25, 7, 180, 0, 192, 51, 42, 27, 25, 7, 182, 1, 17, 160, 0, 7, 4, 167, 0, 4, 3, 126, 54, 5]
abbrev dktX3_isRight_3 : List UInt8 := dkwX3_isRight_3 ++ dktX3_isRight_4
def dkwX3_isRight_2 : List UInt8 := [185, 0, 101, 1, 0, 153, 0, 86, 25, 6, 185, 0, 107, 1, 0, 192, 0, 130, 58, 7, 21, 5, 45]
abbrev dktX3_isRight_2 : List UInt8 := dkwX3_isRight_2 ++ dktX3_isRight_3
def dkwX3_isRight_1 : List UInt8 := [182, 0, 207, 182, 1, 143, 58, 4, 4, 54, 5, 42, 180, 0, 28, 182, 0, 97, 58, 6, 25, 6]
abbrev dktX3_isRight_1 : List UInt8 := dkwX3_isRight_1 ++ dktX3_isRight_2
def dkwX3_isRight_0 : List UInt8 := [42, 180, 0, 22, 27, 182, 0, 69, 192, 0, 157, 77, 42, 44, 180, 0, 211, 182, 1, 143, 78, 42, 42, 27]
abbrev dktX3_isRight_0 : List UInt8 := dkwX3_isRight_0 ++ dktX3_isRight_1
theorem dksX3_isRight_0 : cX3_isRight.data.toList.drop 0 = dktX3_isRight_0 := by decide +kernel
theorem dksX3_isRight_1 : cX3_isRight.data.toList.drop 24 = dktX3_isRight_1 := dk_seg dksX3_isRight_0 24 rfl rfl
theorem dksX3_isRight_2 : cX3_isRight.data.toList.drop 46 = dktX3_isRight_2 := dk_seg dksX3_isRight_1 22 rfl rfl
theorem dksX3_isRight_3 : cX3_isRight.data.toList.drop 69 = dktX3_isRight_3 := dk_seg dksX3_isRight_2 23 rfl rfl
theorem dksX3_isRight_4 : cX3_isRight.data.toList.drop 93 = dktX3_isRight_4 := dk_seg dksX3_isRight_3 24 rfl rfl
theorem dksX3_isRight_5 : cX3_isRight.data.toList.drop 117 = dktX3_isRight_5 := dk_seg dksX3_isRight_4 24 rfl rfl
theorem dksX3_isRight_6 : cX3_isRight.data.toList.drop 139 = dktX3_isRight_6 := dk_seg dksX3_isRight_5 22 rfl rfl
theorem dksX3_isRight_7 : cX3_isRight.data.toList.drop 161 = dktX3_isRight_7 := dk_seg dksX3_isRight_6 22 rfl rfl
theorem dksX3_isRight_8 : cX3_isRight.data.toList.drop 184 = dktX3_isRight_8 := dk_seg dksX3_isRight_7 23 rfl rfl
theorem dksX3_isRight_9 : cX3_isRight.data.toList.drop 206 = dktX3_isRight_9 := dk_seg dksX3_isRight_8 22 rfl rfl
theorem dksX3_isRight_10 : cX3_isRight.data.toList.drop 230 = dktX3_isRight_10 := dk_seg dksX3_isRight_9 24 rfl rfl
theorem dksX3_isRight_11 : cX3_isRight.data.toList.drop 253 = dktX3_isRight_11 := dk_seg dksX3_isRight_10 23 rfl rfl
theorem dksX3_isRight_12 : cX3_isRight.data.toList.drop 276 = dktX3_isRight_12 := dk_seg dksX3_isRight_11 23 rfl rfl
theorem dX3_isRight_0 : decode cX3_isRight 0 = .ok (.aload_n 0, 1) := dk_42 (dk_at dksX3_isRight_0 0 rfl rfl)
theorem dX3_isRight_1 : decode cX3_isRight 1 = .ok (.getfield 22, 3) := dk_180 0 22 (dk_at dksX3_isRight_0 1 rfl rfl)
theorem dX3_isRight_4 : decode cX3_isRight 4 = .ok (.iload_n 1, 1) := dk_27 (dk_at dksX3_isRight_0 4 rfl rfl)
theorem dX3_isRight_5 : decode cX3_isRight 5 = .ok (.invokevirtual 69, 3) := dk_182 0 69 (dk_at dksX3_isRight_0 5 rfl rfl)
theorem dX3_isRight_8 : decode cX3_isRight 8 = .ok (.checkcast 157, 3) := dk_192 0 157 (dk_at dksX3_isRight_0 8 rfl rfl)
theorem dX3_isRight_11 : decode cX3_isRight 11 = .ok (.astore_n 2, 1) := dk_77 (dk_at dksX3_isRight_0 11 rfl rfl)
theorem dX3_isRight_12 : decode cX3_isRight 12 = .ok (.aload_n 0, 1) := dk_42 (dk_at dksX3_isRight_0 12 rfl rfl)
theorem dX3_isRight_13 : decode cX3_isRight 13 = .ok (.aload_n 2, 1) := dk_44 (dk_at dksX3_isRight_0 13 rfl rfl)
theorem dX3_isRight_14 : decode cX3_isRight 14 = .ok (.getfield 211, 3) := dk_180 0 211 (dk_at dksX3_isRight_0 14 rfl rfl)
theorem dX3_isRight_17 : decode cX3_isRight 17 = .ok (.invokevirtual 399, 3) := dk_182 1 143 (dk_at dksX3_isRight_0 17 rfl rfl)
theorem dX3_isRight_20 : decode cX3_isRight 20 = .ok (.astore_n 3, 1) := dk_78 (dk_at dksX3_isRight_0 20 rfl rfl)
theorem dX3_isRight_21 : decode cX3_isRight 21 = .ok (.aload_n 0, 1) := dk_42 (dk_at dksX3_isRight_0 21 rfl rfl)
theorem dX3_isRight_22 : decode cX3_isRight 22 = .ok (.aload_n 0, 1) := dk_42 (dk_at dksX3_isRight_0 22 rfl rfl)
theorem dX3_isRight_23 : decode cX3_isRight 23 = .ok (.iload_n 1, 1) := dk_27 (dk_at dksX3_isRight_0 23 rfl rfl)
theorem dX3_isRight_24 : decode cX3_isRight 24 = .ok (.invokevirtual 207, 3) := dk_182 0 207 (dk_at dksX3_isRight_1 0 rfl rfl)
theorem dX3_isRight_27 : decode cX3_isRight 27 = .ok (.invokevirtual 399, 3) := dk_182 1 143 (dk_at dksX3_isRight_1 3 rfl rfl)
theorem dX3_isRight_30 : decode cX3_isRight 30 = .ok (.astore 4, 2) := dk_58 4 (dk_at dksX3_isRight_1 6 rfl rfl)
theorem dX3_isRight_32 : decode cX3_isRight 32 = .ok (.iconst 1, 1) := dk_4 (dk_at dksX3_isRight_1 8 rfl rfl)
theorem dX3_isRight_33 : decode cX3_isRight 33 = .ok (.istore 5, 2) := dk_54 5 (dk_at dksX3_isRight_1 9 rfl rfl)
theorem dX3_isRight_35 : decode cX3_isRight 35 = .ok (.aload_n 0, 1) := dk_42 (dk_at dksX3_isRight_1 11 rfl rfl)
theorem dX3_isRight_36 : decode cX3_isRight 36 = .ok (.getfield 28, 3) := dk_180 0 28 (dk_at dksX3_isRight_1 12 rfl rfl)
theorem dX3_isRight_39 : decode cX3_isRight 39 = .ok (.invokevirtual 97, 3) := dk_182 0 97 (dk_at dksX3_isRight_1 15 rfl rfl)
theorem dX3_isRight_42 : decode cX3_isRight 42 = .ok (.astore 6, 2) := dk_58 6 (dk_at dksX3_isRight_1 18 rfl rfl)
theorem dX3_isRight_44 : decode cX3_isRight 44 = .ok (.aload 6, 2) := dk_25 6 (dk_at dksX3_isRight_1 20 rfl rfl)
theorem dX3_isRight_46 : decode cX3_isRight 46 = .ok (.invokeinterface 101 1, 5) := by decide +kernel
theorem dX3_isRight_51 : decode cX3_isRight 51 = .ok (.ifCond .eq 86, 3) := dk_153 0 86 (dk_at dksX3_isRight_2 5 rfl rfl)
theorem dX3_isRight_54 : decode cX3_isRight 54 = .ok (.aload 6, 2) := dk_25 6 (dk_at dksX3_isRight_2 8 rfl rfl)
theorem dX3_isRight_56 : decode cX3_isRight 56 = .ok (.invokeinterface 107 1, 5) := by decide +kernel
theorem dX3_isRight_61 : decode cX3_isRight 61 = .ok (.checkcast 130, 3) := dk_192 0 130 (dk_at dksX3_isRight_2 15 rfl rfl)
theorem dX3_isRight_64 : decode cX3_isRight 64 = .ok (.astore 7, 2) := dk_58 7 (dk_at dksX3_isRight_2 18 rfl rfl)
theorem dX3_isRight_66 : decode cX3_isRight 66 = .ok (.iload 5, 2) := dk_21 5 (dk_at dksX3_isRight_2 20 rfl rfl)
theorem dX3_isRight_68 : decode cX3_isRight 68 = .ok (.aload_n 3, 1) := dk_45 (dk_at dksX3_isRight_2 22 rfl rfl)
theorem dX3_isRight_69 : decode cX3_isRight 69 = .ok (.aload 7, 2) := dk_25 7 (dk_at dksX3_isRight_3 0 rfl rfl)
theorem dX3_isRight_71 : decode cX3_isRight 71 = .ok (.getfield 192, 3) := dk_180 0 192 (dk_at dksX3_isRight_3 2 rfl rfl)
theorem dX3_isRight_74 : decode cX3_isRight 74 = .ok (.baload, 1) := dk_51 (dk_at dksX3_isRight_3 5 rfl rfl)
theorem dX3_isRight_75 : decode cX3_isRight 75 = .ok (.aload_n 0, 1) := dk_42 (dk_at dksX3_isRight_3 6 rfl rfl)
theorem dX3_isRight_76 : decode cX3_isRight 76 = .ok (.iload_n 1, 1) := dk_27 (dk_at dksX3_isRight_3 7 rfl rfl)
theorem dX3_isRight_77 : decode cX3_isRight 77 = .ok (.aload 7, 2) := dk_25 7 (dk_at dksX3_isRight_3 8 rfl rfl)
theorem dX3_isRight_79 : decode cX3_isRight 79 = .ok (.invokevirtual 273, 3) := dk_182 1 17 (dk_at dksX3_isRight_3 10 rfl rfl)
theorem dX3_isRight_82 : decode cX3_isRight 82 = .ok (.if_icmp .ne 7, 3) := dk_160 0 7 (dk_at dksX3_isRight_3 13 rfl rfl)
theorem dX3_isRight_85 : decode cX3_isRight 85 = .ok (.iconst 1, 1) := dk_4 (dk_at dksX3_isRight_3 16 rfl rfl)
theorem dX3_isRight_86 : decode cX3_isRight 86 = .ok (.goto 4, 3) := dk_167 0 4 (dk_at dksX3_isRight_3 17 rfl rfl)
theorem dX3_isRight_89 : decode cX3_isRight 89 = .ok (.iconst 0, 1) := dk_3 (dk_at dksX3_isRight_3 20 rfl rfl)
theorem dX3_isRight_90 : decode cX3_isRight 90 = .ok (.iand, 1) := dk_126 (dk_at dksX3_isRight_3 21 rfl rfl)
theorem dX3_isRight_91 : decode cX3_isRight 91 = .ok (.istore 5, 2) := dk_54 5 (dk_at dksX3_isRight_3 22 rfl rfl)
theorem dX3_isRight_93 : decode cX3_isRight 93 = .ok (.iload 5, 2) := dk_21 5 (dk_at dksX3_isRight_4 0 rfl rfl)
theorem dX3_isRight_95 : decode cX3_isRight 95 = .ok (.aload_n 2, 1) := dk_44 (dk_at dksX3_isRight_4 2 rfl rfl)
theorem dX3_isRight_96 : decode cX3_isRight 96 = .ok (.getfield 178, 3) := dk_180 0 178 (dk_at dksX3_isRight_4 3 rfl rfl)
theorem dX3_isRight_99 : decode cX3_isRight 99 = .ok (.iconst (-1), 1) := dk_2 (dk_at dksX3_isRight_4 6 rfl rfl)
theorem dX3_isRight_100 : decode cX3_isRight 100 = .ok (.if_icmp .eq 26, 3) := dk_159 0 26 (dk_at dksX3_isRight_4 7 rfl rfl)
theorem dX3_isRight_103 : decode cX3_isRight 103 = .ok (.aload 7, 2) := dk_25 7 (dk_at dksX3_isRight_4 10 rfl rfl)
theorem dX3_isRight_105 : decode cX3_isRight 105 = .ok (.getfield 214, 3) := dk_180 0 214 (dk_at dksX3_isRight_4 12 rfl rfl)
theorem dX3_isRight_108 : decode cX3_isRight 108 = .ok (.aload_n 2, 1) := dk_44 (dk_at dksX3_isRight_4 15 rfl rfl)
theorem dX3_isRight_109 : decode cX3_isRight 109 = .ok (.getfield 178, 3) := dk_180 0 178 (dk_at dksX3_isRight_4 16 rfl rfl)
theorem dX3_isRight_112 : decode cX3_isRight 112 = .ok (.if_icmp .ge 14, 3) := dk_162 0 14 (dk_at dksX3_isRight_4 19 rfl rfl)
theorem dX3_isRight_115 : decode cX3_isRight 115 = .ok (.aload 4, 2) := dk_25 4 (dk_at dksX3_isRight_4 22 rfl rfl)
theorem dX3_isRight_117 : decode cX3_isRight 117 = .ok (.aload 7, 2) := dk_25 7 (dk_at dksX3_isRight_5 0 rfl rfl)
theorem dX3_isRight_119 : decode cX3_isRight 119 = .ok (.getfield 192, 3) := dk_180 0 192 (dk_at dksX3_isRight_5 2 rfl rfl)
theorem dX3_isRight_122 : decode cX3_isRight 122 = .ok (.baload, 1) := dk_51 (dk_at dksX3_isRight_5 5 rfl rfl)
theorem dX3_isRight_123 : decode cX3_isRight 123 = .ok (.ifCond .ne 7, 3) := dk_154 0 7 (dk_at dksX3_isRight_5 6 rfl rfl)
theorem dX3_isRight_126 : decode cX3_isRight 126 = .ok (.iconst 1, 1) := dk_4 (dk_at dksX3_isRight_5 9 rfl rfl)
theorem dX3_isRight_127 : decode cX3_isRight 127 = .ok (.goto 4, 3) := dk_167 0 4 (dk_at dksX3_isRight_5 10 rfl rfl)
theorem dX3_isRight_130 : decode cX3_isRight 130 = .ok (.iconst 0, 1) := dk_3 (dk_at dksX3_isRight_5 13 rfl rfl)
theorem dX3_isRight_131 : decode cX3_isRight 131 = .ok (.iand, 1) := dk_126 (dk_at dksX3_isRight_5 14 rfl rfl)
theorem dX3_isRight_132 : decode cX3_isRight 132 = .ok (.istore 5, 2) := dk_54 5 (dk_at dksX3_isRight_5 15 rfl rfl)
theorem dX3_isRight_134 : decode cX3_isRight 134 = .ok (.goto (-90), 3) := dk_167 255 166 (dk_at dksX3_isRight_5 17 rfl rfl)
theorem dX3_isRight_137 : decode cX3_isRight 137 = .ok (.aload_n 0, 1) := dk_42 (dk_at dksX3_isRight_5 20 rfl rfl)
theorem dX3_isRight_138 : decode cX3_isRight 138 = .ok (.iload_n 1, 1) := dk_27 (dk_at dksX3_isRight_5 21 rfl rfl)
theorem dX3_isRight_139 : decode cX3_isRight 139 = .ok (.invokevirtual 290, 3) := dk_182 1 34 (dk_at dksX3_isRight_6 0 rfl rfl)
theorem dX3_isRight_142 : decode cX3_isRight 142 = .ok (.ifCond .ne 6, 3) := dk_154 0 6 (dk_at dksX3_isRight_6 3 rfl rfl)
theorem dX3_isRight_145 : decode cX3_isRight 145 = .ok (.iload 5, 2) := dk_21 5 (dk_at dksX3_isRight_6 6 rfl rfl)
theorem dX3_isRight_147 : decode cX3_isRight 147 = .ok (.ireturn, 1) := dk_172 (dk_at dksX3_isRight_6 8 rfl rfl)
theorem dX3_isRight_148 : decode cX3_isRight 148 = .ok (.aload_n 0, 1) := dk_42 (dk_at dksX3_isRight_6 9 rfl rfl)
theorem dX3_isRight_149 : decode cX3_isRight 149 = .ok (.invokevirtual 296, 3) := dk_182 1 40 (dk_at dksX3_isRight_6 10 rfl rfl)
theorem dX3_isRight_152 : decode cX3_isRight 152 = .ok (.astore 6, 2) := dk_58 6 (dk_at dksX3_isRight_6 13 rfl rfl)
theorem dX3_isRight_154 : decode cX3_isRight 154 = .ok (.iconst 0, 1) := dk_3 (dk_at dksX3_isRight_6 15 rfl rfl)
theorem dX3_isRight_155 : decode cX3_isRight 155 = .ok (.istore 7, 2) := dk_54 7 (dk_at dksX3_isRight_6 16 rfl rfl)
theorem dX3_isRight_157 : decode cX3_isRight 157 = .ok (.iload 7, 2) := dk_21 7 (dk_at dksX3_isRight_6 18 rfl rfl)
theorem dX3_isRight_159 : decode cX3_isRight 159 = .ok (.aload 6, 2) := dk_25 6 (dk_at dksX3_isRight_6 20 rfl rfl)
theorem dX3_isRight_161 : decode cX3_isRight 161 = .ok (.invokevirtual 150, 3) := dk_182 0 150 (dk_at dksX3_isRight_7 0 rfl rfl)
theorem dX3_isRight_164 : decode cX3_isRight 164 = .ok (.if_icmp .ge 120, 3) := dk_162 0 120 (dk_at dksX3_isRight_7 3 rfl rfl)
theorem dX3_isRight_167 : decode cX3_isRight 167 = .ok (.iload 7, 2) := dk_21 7 (dk_at dksX3_isRight_7 6 rfl rfl)
theorem dX3_isRight_169 : decode cX3_isRight 169 = .ok (.aload_n 2, 1) := dk_44 (dk_at dksX3_isRight_7 8 rfl rfl)
theorem dX3_isRight_170 : decode cX3_isRight 170 = .ok (.getfield 260, 3) := dk_180 1 4 (dk_at dksX3_isRight_7 9 rfl rfl)
theorem dX3_isRight_173 : decode cX3_isRight 173 = .ok (.invokestatic 153, 3) := dk_184 0 153 (dk_at dksX3_isRight_7 12 rfl rfl)
theorem dX3_isRight_176 : decode cX3_isRight 176 = .ok (.ifCond .eq 37, 3) := dk_153 0 37 (dk_at dksX3_isRight_7 15 rfl rfl)
theorem dX3_isRight_179 : decode cX3_isRight 179 = .ok (.aload 6, 2) := dk_25 6 (dk_at dksX3_isRight_7 18 rfl rfl)
theorem dX3_isRight_181 : decode cX3_isRight 181 = .ok (.getfield 129, 3) := dk_180 0 129 (dk_at dksX3_isRight_7 20 rfl rfl)
theorem dX3_isRight_184 : decode cX3_isRight 184 = .ok (.iload 7, 2) := dk_21 7 (dk_at dksX3_isRight_8 0 rfl rfl)
theorem dX3_isRight_186 : decode cX3_isRight 186 = .ok (.iaload, 1) := dk_46 (dk_at dksX3_isRight_8 2 rfl rfl)
theorem dX3_isRight_187 : decode cX3_isRight 187 = .ok (.iconst (-1), 1) := dk_2 (dk_at dksX3_isRight_8 3 rfl rfl)
theorem dX3_isRight_188 : decode cX3_isRight 188 = .ok (.if_icmp .eq 25, 3) := dk_159 0 25 (dk_at dksX3_isRight_8 4 rfl rfl)
theorem dX3_isRight_191 : decode cX3_isRight 191 = .ok (.aload 6, 2) := dk_25 6 (dk_at dksX3_isRight_8 7 rfl rfl)
theorem dX3_isRight_193 : decode cX3_isRight 193 = .ok (.getfield 139, 3) := dk_180 0 139 (dk_at dksX3_isRight_8 9 rfl rfl)
theorem dX3_isRight_196 : decode cX3_isRight 196 = .ok (.iload 7, 2) := dk_21 7 (dk_at dksX3_isRight_8 12 rfl rfl)
theorem dX3_isRight_198 : decode cX3_isRight 198 = .ok (.iaload, 1) := dk_46 (dk_at dksX3_isRight_8 14 rfl rfl)
theorem dX3_isRight_199 : decode cX3_isRight 199 = .ok (.aload_n 2, 1) := dk_44 (dk_at dksX3_isRight_8 15 rfl rfl)
theorem dX3_isRight_200 : decode cX3_isRight 200 = .ok (.getfield 260, 3) := dk_180 1 4 (dk_at dksX3_isRight_8 16 rfl rfl)
theorem dX3_isRight_203 : decode cX3_isRight 203 = .ok (.ishr, 1) := dk_122 (dk_at dksX3_isRight_8 19 rfl rfl)
theorem dX3_isRight_204 : decode cX3_isRight 204 = .ok (.iconst 1, 1) := dk_4 (dk_at dksX3_isRight_8 20 rfl rfl)
theorem dX3_isRight_205 : decode cX3_isRight 205 = .ok (.iand, 1) := dk_126 (dk_at dksX3_isRight_8 21 rfl rfl)
theorem dX3_isRight_206 : decode cX3_isRight 206 = .ok (.ifCond .ne 7, 3) := dk_154 0 7 (dk_at dksX3_isRight_9 0 rfl rfl)
theorem dX3_isRight_209 : decode cX3_isRight 209 = .ok (.iconst 1, 1) := dk_4 (dk_at dksX3_isRight_9 3 rfl rfl)
theorem dX3_isRight_210 : decode cX3_isRight 210 = .ok (.goto 4, 3) := dk_167 0 4 (dk_at dksX3_isRight_9 4 rfl rfl)
theorem dX3_isRight_213 : decode cX3_isRight 213 = .ok (.iconst 0, 1) := dk_3 (dk_at dksX3_isRight_9 7 rfl rfl)
theorem dX3_isRight_214 : decode cX3_isRight 214 = .ok (.istore 8, 2) := dk_54 8 (dk_at dksX3_isRight_9 8 rfl rfl)
theorem dX3_isRight_216 : decode cX3_isRight 216 = .ok (.iload 5, 2) := dk_21 5 (dk_at dksX3_isRight_9 10 rfl rfl)
theorem dX3_isRight_218 : decode cX3_isRight 218 = .ok (.iload 7, 2) := dk_21 7 (dk_at dksX3_isRight_9 12 rfl rfl)
theorem dX3_isRight_220 : decode cX3_isRight 220 = .ok (.invokestatic 126, 3) := dk_184 0 126 (dk_at dksX3_isRight_9 14 rfl rfl)
theorem dX3_isRight_223 : decode cX3_isRight 223 = .ok (.ifCond .eq 47, 3) := dk_153 0 47 (dk_at dksX3_isRight_9 17 rfl rfl)
theorem dX3_isRight_226 : decode cX3_isRight 226 = .ok (.aload_n 2, 1) := dk_44 (dk_at dksX3_isRight_9 20 rfl rfl)
theorem dX3_isRight_227 : decode cX3_isRight 227 = .ok (.getfield 187, 3) := dk_180 0 187 (dk_at dksX3_isRight_9 21 rfl rfl)
theorem dX3_isRight_230 : decode cX3_isRight 230 = .ok (.iload 7, 2) := dk_21 7 (dk_at dksX3_isRight_10 0 rfl rfl)
theorem dX3_isRight_232 : decode cX3_isRight 232 = .ok (.iaload, 1) := dk_46 (dk_at dksX3_isRight_10 2 rfl rfl)
theorem dX3_isRight_233 : decode cX3_isRight 233 = .ok (.iconst (-1), 1) := dk_2 (dk_at dksX3_isRight_10 3 rfl rfl)
theorem dX3_isRight_234 : decode cX3_isRight 234 = .ok (.if_icmp .eq 7, 3) := dk_159 0 7 (dk_at dksX3_isRight_10 4 rfl rfl)
theorem dX3_isRight_237 : decode cX3_isRight 237 = .ok (.iconst 1, 1) := dk_4 (dk_at dksX3_isRight_10 7 rfl rfl)
theorem dX3_isRight_238 : decode cX3_isRight 238 = .ok (.goto 4, 3) := dk_167 0 4 (dk_at dksX3_isRight_10 8 rfl rfl)
theorem dX3_isRight_241 : decode cX3_isRight 241 = .ok (.iconst 0, 1) := dk_3 (dk_at dksX3_isRight_10 11 rfl rfl)
theorem dX3_isRight_242 : decode cX3_isRight 242 = .ok (.iload 8, 2) := dk_21 8 (dk_at dksX3_isRight_10 12 rfl rfl)
theorem dX3_isRight_244 : decode cX3_isRight 244 = .ok (.if_icmp .ne 30, 3) := dk_160 0 30 (dk_at dksX3_isRight_10 14 rfl rfl)
theorem dX3_isRight_247 : decode cX3_isRight 247 = .ok (.iload 8, 2) := dk_21 8 (dk_at dksX3_isRight_10 17 rfl rfl)
theorem dX3_isRight_249 : decode cX3_isRight 249 = .ok (.ifCond .eq 21, 3) := dk_153 0 21 (dk_at dksX3_isRight_10 19 rfl rfl)
theorem dX3_isRight_252 : decode cX3_isRight 252 = .ok (.aload_n 2, 1) := dk_44 (dk_at dksX3_isRight_10 22 rfl rfl)
theorem dX3_isRight_253 : decode cX3_isRight 253 = .ok (.getfield 187, 3) := dk_180 0 187 (dk_at dksX3_isRight_11 0 rfl rfl)
theorem dX3_isRight_256 : decode cX3_isRight 256 = .ok (.iload 7, 2) := dk_21 7 (dk_at dksX3_isRight_11 3 rfl rfl)
theorem dX3_isRight_258 : decode cX3_isRight 258 = .ok (.iaload, 1) := dk_46 (dk_at dksX3_isRight_11 5 rfl rfl)
theorem dX3_isRight_259 : decode cX3_isRight 259 = .ok (.aload 6, 2) := dk_25 6 (dk_at dksX3_isRight_11 6 rfl rfl)
theorem dX3_isRight_261 : decode cX3_isRight 261 = .ok (.getfield 129, 3) := dk_180 0 129 (dk_at dksX3_isRight_11 8 rfl rfl)
theorem dX3_isRight_264 : decode cX3_isRight 264 = .ok (.iload 7, 2) := dk_21 7 (dk_at dksX3_isRight_11 11 rfl rfl)
theorem dX3_isRight_266 : decode cX3_isRight 266 = .ok (.iaload, 1) := dk_46 (dk_at dksX3_isRight_11 13 rfl rfl)
theorem dX3_isRight_267 : decode cX3_isRight 267 = .ok (.if_icmp .ne 7, 3) := dk_160 0 7 (dk_at dksX3_isRight_11 14 rfl rfl)
theorem dX3_isRight_270 : decode cX3_isRight 270 = .ok (.iconst 1, 1) := dk_4 (dk_at dksX3_isRight_11 17 rfl rfl)
theorem dX3_isRight_271 : decode cX3_isRight 271 = .ok (.goto 4, 3) := dk_167 0 4 (dk_at dksX3_isRight_11 18 rfl rfl)
theorem dX3_isRight_274 : decode cX3_isRight 274 = .ok (.iconst 0, 1) := dk_3 (dk_at dksX3_isRight_11 21 rfl rfl)
theorem dX3_isRight_275 : decode cX3_isRight 275 = .ok (.iand, 1) := dk_126 (dk_at dksX3_isRight_11 22 rfl rfl)
theorem dX3_isRight_276 : decode cX3_isRight 276 = .ok (.istore 5, 2) := dk_54 5 (dk_at dksX3_isRight_12 0 rfl rfl)
theorem dX3_isRight_278 : decode cX3_isRight 278 = .ok (.iinc 7 1, 3) := dk_132 7 1 (dk_at dksX3_isRight_12 2 rfl rfl)
theorem dX3_isRight_281 : decode cX3_isRight 281 = .ok (.goto (-124), 3) := dk_167 255 132 (dk_at dksX3_isRight_12 5 rfl rfl)
theorem dX3_isRight_284 : decode cX3_isRight 284 = .ok (.iload 5, 2) := dk_21 5 (dk_at dksX3_isRight_12 8 rfl rfl)
theorem dX3_isRight_286 : decode cX3_isRight 286 = .ok (.ireturn, 1) := dk_172 (dk_at dksX3_isRight_12 10 rfl rfl)
theorem q85 : (Jvm.Cond.initialized "KeygroveModel") ∈ lw_all := lw_g (lw_at lw_m1 9 rfl) rfl
theorem q745 : (Jvm.Cond.selects "KeygroveModel" ({ cls := "java/lang/Object", name := "getClass", desc := "()Ljava/lang/Class;" } : Jvm.MethodName) ({ cls := "java/lang/Object", name := "getClass", desc := "()Ljava/lang/Class;" } : Jvm.MethodName)) ∈ lw_all := lw_g (lw_at lw_m3 189 rfl) rfl
theorem q1277 : (Jvm.Cond.selects "KeygroveModel" ({ cls := "java/lang/Object", name := "hashCode", desc := "()I" } : Jvm.MethodName) ({ cls := "java/lang/Object", name := "hashCode", desc := "()I" } : Jvm.MethodName)) ∈ lw_all := lw_g (lw_at lw_m6 1 rfl) rfl
theorem q1378 : (Jvm.Cond.selects "KeygroveModel" ({ cls := "java/lang/Object", name := "equals", desc := "(Ljava/lang/Object;)Z" } : Jvm.MethodName) ({ cls := "java/lang/Object", name := "equals", desc := "(Ljava/lang/Object;)Z" } : Jvm.MethodName)) ∈ lw_all := lw_g (lw_at lw_m6 102 rfl) rfl
theorem q3050 : (Jvm.Cond.instantiable "KeygroveModel" (12 : Nat)) ∈ lw_all := lw_g (lw_at lw_m13 94 rfl) rfl
theorem q3052 : (Jvm.Cond.instanceMethod ({ cls := "KeygroveModel", name := "<init>", desc := "()V" } : Jvm.MethodName)) ∈ lw_all := lw_g (lw_at lw_m13 96 rfl) rfl
theorem q3053 : (Jvm.Cond.code ({ cls := "KeygroveModel", name := "<init>", desc := "()V" } : Jvm.MethodName) prog_15_method_1_code (1 : Nat) (Option.none : Option Jvm.ClassFile.FieldType)) ∈ lw_all := lw_g (lw_at lw_m13 97 rfl) rfl
theorem q3054 : (Jvm.Cond.methodLink "KeygroveModel" (1 : Nat) ({ cls := "java/lang/Object", name := "<init>", desc := "()V" } : Jvm.MethodName)) ∈ lw_all := lw_g (lw_at lw_m13 98 rfl) rfl
theorem q3055 : (Jvm.Cond.classLink "KeygroveModel" (7 : Nat) "java/util/ArrayList") ∈ lw_all := lw_g (lw_at lw_m13 99 rfl) rfl
theorem q3056 : (Jvm.Cond.methodLink "KeygroveModel" (9 : Nat) ({ cls := "java/util/ArrayList", name := "<init>", desc := "()V" } : Jvm.MethodName)) ∈ lw_all := lw_g (lw_at lw_m13 100 rfl) rfl
theorem q3057 : (Jvm.Cond.fieldLink "KeygroveModel" (10 : Nat) "KeygroveModel" "secrets" "Ljava/util/ArrayList;") ∈ lw_all := lw_g (lw_at lw_m13 101 rfl) rfl
theorem q3058 : (Jvm.Cond.fieldLink "KeygroveModel" (16 : Nat) "KeygroveModel" "sent" "Ljava/util/ArrayList;") ∈ lw_all := lw_g (lw_at lw_m13 102 rfl) rfl
theorem q3059 : (Jvm.Cond.fieldLink "KeygroveModel" (19 : Nat) "KeygroveModel" "packs" "Ljava/util/ArrayList;") ∈ lw_all := lw_g (lw_at lw_m13 103 rfl) rfl
theorem q3060 : (Jvm.Cond.fieldLink "KeygroveModel" (22 : Nat) "KeygroveModel" "persons" "Ljava/util/ArrayList;") ∈ lw_all := lw_g (lw_at lw_m13 104 rfl) rfl
theorem q3061 : (Jvm.Cond.fieldLink "KeygroveModel" (25 : Nat) "KeygroveModel" "proposals" "Ljava/util/ArrayList;") ∈ lw_all := lw_g (lw_at lw_m13 105 rfl) rfl
theorem q3062 : (Jvm.Cond.fieldLink "KeygroveModel" (28 : Nat) "KeygroveModel" "epochs" "Ljava/util/ArrayList;") ∈ lw_all := lw_g (lw_at lw_m13 106 rfl) rfl
theorem q3063 : (Jvm.Cond.fieldLink "KeygroveModel" (31 : Nat) "KeygroveModel" "messages" "Ljava/util/ArrayList;") ∈ lw_all := lw_g (lw_at lw_m13 107 rfl) rfl
theorem q3064 : (Jvm.Cond.fieldLink "KeygroveModel" (34 : Nat) "KeygroveModel" "stolen" "Ljava/util/ArrayList;") ∈ lw_all := lw_g (lw_at lw_m13 108 rfl) rfl
theorem q3065 : (Jvm.Cond.fieldLink "KeygroveModel" (41 : Nat) "KeygroveModel" "thrown" "I") ∈ lw_all := lw_g (lw_at lw_m13 109 rfl) rfl
theorem q3066 : (Jvm.Cond.fieldLink "KeygroveModel" (37 : Nat) "KeygroveModel" "z" "I") ∈ lw_all := lw_g (lw_at lw_m13 110 rfl) rfl
theorem q3067 : (Jvm.Cond.fieldLink "KeygroveModel" (94 : Nat) "KeygroveModel" "boxes" "I") ∈ lw_all := lw_g (lw_at lw_m13 111 rfl) rfl
theorem q3068 : (Jvm.Cond.fieldLink "KeygroveModel" (350 : Nat) "KeygroveModel" "commits" "I") ∈ lw_all := lw_g (lw_at lw_m13 112 rfl) rfl
theorem q3069 : (Jvm.Cond.laysFinal "KeygroveModel" "KeygroveModel" "secrets" "Ljava/util/ArrayList;") ∈ lw_all := lw_g (lw_at lw_m13 113 rfl) rfl
theorem q3070 : (Jvm.Cond.soleField "KeygroveModel" "secrets") ∈ lw_all := lw_g (lw_at lw_m13 114 rfl) rfl
theorem q3071 : (Jvm.Cond.laysFinal "KeygroveModel" "KeygroveModel" "sent" "Ljava/util/ArrayList;") ∈ lw_all := lw_g (lw_at lw_m13 115 rfl) rfl
theorem q3072 : (Jvm.Cond.soleField "KeygroveModel" "sent") ∈ lw_all := lw_g (lw_at lw_m13 116 rfl) rfl
theorem q3073 : (Jvm.Cond.laysFinal "KeygroveModel" "KeygroveModel" "packs" "Ljava/util/ArrayList;") ∈ lw_all := lw_g (lw_at lw_m13 117 rfl) rfl
theorem q3074 : (Jvm.Cond.soleField "KeygroveModel" "packs") ∈ lw_all := lw_g (lw_at lw_m13 118 rfl) rfl
theorem q3075 : (Jvm.Cond.laysFinal "KeygroveModel" "KeygroveModel" "persons" "Ljava/util/ArrayList;") ∈ lw_all := lw_g (lw_at lw_m13 119 rfl) rfl
theorem q3076 : (Jvm.Cond.soleField "KeygroveModel" "persons") ∈ lw_all := lw_g (lw_at lw_m13 120 rfl) rfl
theorem q3077 : (Jvm.Cond.laysFinal "KeygroveModel" "KeygroveModel" "proposals" "Ljava/util/ArrayList;") ∈ lw_all := lw_g (lw_at lw_m13 121 rfl) rfl
theorem q3078 : (Jvm.Cond.soleField "KeygroveModel" "proposals") ∈ lw_all := lw_g (lw_at lw_m13 122 rfl) rfl
theorem q3079 : (Jvm.Cond.laysFinal "KeygroveModel" "KeygroveModel" "epochs" "Ljava/util/ArrayList;") ∈ lw_all := lw_g (lw_at lw_m13 123 rfl) rfl
theorem q3080 : (Jvm.Cond.soleField "KeygroveModel" "epochs") ∈ lw_all := lw_g (lw_at lw_m13 124 rfl) rfl
theorem q3081 : (Jvm.Cond.laysFinal "KeygroveModel" "KeygroveModel" "messages" "Ljava/util/ArrayList;") ∈ lw_all := lw_g (lw_at lw_m13 125 rfl) rfl
theorem q3082 : (Jvm.Cond.soleField "KeygroveModel" "messages") ∈ lw_all := lw_g (lw_at lw_m13 126 rfl) rfl
theorem q3083 : (Jvm.Cond.laysFinal "KeygroveModel" "KeygroveModel" "stolen" "Ljava/util/ArrayList;") ∈ lw_all := lw_g (lw_at lw_m13 127 rfl) rfl
theorem q3084 : (Jvm.Cond.soleField "KeygroveModel" "stolen") ∈ lw_all := lw_g (lw_at lw_m13 128 rfl) rfl
theorem q3085 : (Jvm.Cond.lays "KeygroveModel" "KeygroveModel" "thrown" "I") ∈ lw_all := lw_g (lw_at lw_m13 129 rfl) rfl
theorem q3086 : (Jvm.Cond.soleField "KeygroveModel" "thrown") ∈ lw_all := lw_g (lw_at lw_m13 130 rfl) rfl
theorem q3087 : (Jvm.Cond.lays "KeygroveModel" "KeygroveModel" "z" "I") ∈ lw_all := lw_g (lw_at lw_m13 131 rfl) rfl
theorem q3088 : (Jvm.Cond.soleField "KeygroveModel" "z") ∈ lw_all := lw_g (lw_at lw_m13 132 rfl) rfl
theorem q3089 : (Jvm.Cond.lays "KeygroveModel" "KeygroveModel" "boxes" "I") ∈ lw_all := lw_g (lw_at lw_m13 133 rfl) rfl
theorem q3090 : (Jvm.Cond.soleField "KeygroveModel" "boxes") ∈ lw_all := lw_g (lw_at lw_m13 134 rfl) rfl
theorem q3091 : (Jvm.Cond.lays "KeygroveModel" "KeygroveModel" "commits" "I") ∈ lw_all := lw_g (lw_at lw_m13 135 rfl) rfl
theorem q3092 : (Jvm.Cond.soleField "KeygroveModel" "commits") ∈ lw_all := lw_g (lw_at lw_m13 136 rfl) rfl
theorem q3093 : (Jvm.Cond.superclass "KeygroveModel" "java/lang/Object") ∈ lw_all := lw_g (lw_at lw_m13 137 rfl) rfl
theorem q3095 : (Jvm.Cond.instanceMethod ({ cls := "KeygroveModel", name := "thrown", desc := "()I" } : Jvm.MethodName)) ∈ lw_all := lw_g (lw_at lw_m13 139 rfl) rfl
theorem q3096 : (Jvm.Cond.selects "KeygroveModel" ({ cls := "KeygroveModel", name := "thrown", desc := "()I" } : Jvm.MethodName) ({ cls := "KeygroveModel", name := "thrown", desc := "()I" } : Jvm.MethodName)) ∈ lw_all := lw_g (lw_at lw_m13 140 rfl) rfl
theorem q3097 : (Jvm.Cond.code ({ cls := "KeygroveModel", name := "thrown", desc := "()I" } : Jvm.MethodName) prog_15_method_2_code (1 : Nat) (Option.some Jvm.ClassFile.FieldType.int)) ∈ lw_all := lw_g (lw_at lw_m13 141 rfl) rfl
theorem q3099 : (Jvm.Cond.instanceMethod ({ cls := "KeygroveModel", name := "person", desc := "()I" } : Jvm.MethodName)) ∈ lw_all := lw_g (lw_at lw_m13 143 rfl) rfl
theorem q3100 : (Jvm.Cond.selects "KeygroveModel" ({ cls := "KeygroveModel", name := "person", desc := "()I" } : Jvm.MethodName) ({ cls := "KeygroveModel", name := "person", desc := "()I" } : Jvm.MethodName)) ∈ lw_all := lw_g (lw_at lw_m13 144 rfl) rfl
theorem q3101 : (Jvm.Cond.code ({ cls := "KeygroveModel", name := "person", desc := "()I" } : Jvm.MethodName) prog_15_method_25_code (2 : Nat) (Option.some Jvm.ClassFile.FieldType.int)) ∈ lw_all := lw_g (lw_at lw_m13 145 rfl) rfl
theorem q3102 : (Jvm.Cond.methodLink "KeygroveModel" (56 : Nat) ({ cls := "java/util/ArrayList", name := "size", desc := "()I" } : Jvm.MethodName)) ∈ lw_all := lw_g (lw_at lw_m13 146 rfl) rfl
theorem q3103 : (Jvm.Cond.methodLink "KeygroveModel" (230 : Nat) ({ cls := "KeygroveModel", name := "isWrong", desc := "(I)Z" } : Jvm.MethodName)) ∈ lw_all := lw_g (lw_at lw_m13 147 rfl) rfl
theorem q3104 : (Jvm.Cond.privateMethod ({ cls := "KeygroveModel", name := "isWrong", desc := "(I)Z" } : Jvm.MethodName)) ∈ lw_tbl := lw_at lw_m13 148 rfl
theorem q3105 : (Jvm.Cond.instanceMethod ({ cls := "KeygroveModel", name := "isWrong", desc := "(I)Z" } : Jvm.MethodName)) ∈ lw_all := lw_g (lw_at lw_m13 149 rfl) rfl
theorem q3106 : (Jvm.Cond.code ({ cls := "KeygroveModel", name := "isWrong", desc := "(I)Z" } : Jvm.MethodName) prog_15_method_3_code (2 : Nat) (Option.some Jvm.ClassFile.FieldType.boolean)) ∈ lw_all := lw_g (lw_at lw_m13 150 rfl) rfl
theorem q3107 : (Jvm.Cond.classLink "KeygroveModel" (157 : Nat) "KeygroveModel$Person") ∈ lw_all := lw_g (lw_at lw_m13 151 rfl) rfl
theorem q3109 : (Jvm.Cond.methodLinkNest "KeygroveModel" (233 : Nat) ({ cls := "KeygroveModel$Person", name := "<init>", desc := "()V" } : Jvm.MethodName) "KeygroveModel") ∈ lw_tbl := lw_at lw_m13 153 rfl
theorem q3118 : (Jvm.Cond.fieldLinkNest "KeygroveModel" (178 : Nat) "KeygroveModel$Person" "epoch" "I" "KeygroveModel") ∈ lw_tbl := lw_at lw_m13 162 rfl
theorem q3119 : (Jvm.Cond.fieldLinkNest "KeygroveModel" (260 : Nat) "KeygroveModel$Person" "leaf" "I" "KeygroveModel") ∈ lw_tbl := lw_at lw_m13 163 rfl
theorem q3120 : (Jvm.Cond.fieldLinkNest "KeygroveModel" (181 : Nat) "KeygroveModel$Person" "leafSecret" "I" "KeygroveModel") ∈ lw_tbl := lw_at lw_m13 164 rfl
theorem q3122 : (Jvm.Cond.fieldLinkNest "KeygroveModel" (184 : Nat) "KeygroveModel$Person" "renewal" "I" "KeygroveModel") ∈ lw_tbl := lw_at lw_m13 166 rfl
theorem q3124 : (Jvm.Cond.fieldLinkNest "KeygroveModel" (187 : Nat) "KeygroveModel$Person" "nodes" "[I" "KeygroveModel") ∈ lw_tbl := lw_at lw_m13 168 rfl
theorem q3126 : (Jvm.Cond.fieldLinkNest "KeygroveModel" (195 : Nat) "KeygroveModel$Person" "chains" "[LKeygroveModel$Chain;" "KeygroveModel") ∈ lw_tbl := lw_at lw_m13 170 rfl
theorem q3128 : (Jvm.Cond.fieldLinkNest "KeygroveModel" (211 : Nat) "KeygroveModel$Person" "ever" "Ljava/util/ArrayList;" "KeygroveModel") ∈ lw_tbl := lw_at lw_m13 172 rfl
theorem q3144 : (Jvm.Cond.methodLink "KeygroveModel" (52 : Nat) ({ cls := "java/util/ArrayList", name := "add", desc := "(Ljava/lang/Object;)Z" } : Jvm.MethodName)) ∈ lw_all := lw_g (lw_at lw_m13 188 rfl) rfl
theorem q3145 : (Jvm.Cond.methodLink "KeygroveModel" (234 : Nat) ({ cls := "KeygroveModel", name := "goesOut", desc := "(LKeygroveModel$Person;)V" } : Jvm.MethodName)) ∈ lw_all := lw_g (lw_at lw_m13 189 rfl) rfl
theorem q3146 : (Jvm.Cond.privateMethod ({ cls := "KeygroveModel", name := "goesOut", desc := "(LKeygroveModel$Person;)V" } : Jvm.MethodName)) ∈ lw_tbl := lw_at lw_m13 190 rfl
theorem q3147 : (Jvm.Cond.instanceMethod ({ cls := "KeygroveModel", name := "goesOut", desc := "(LKeygroveModel$Person;)V" } : Jvm.MethodName)) ∈ lw_all := lw_g (lw_at lw_m13 191 rfl) rfl
theorem q3148 : (Jvm.Cond.code ({ cls := "KeygroveModel", name := "goesOut", desc := "(LKeygroveModel$Person;)V" } : Jvm.MethodName) prog_15_method_21_code (3 : Nat) (Option.none : Option Jvm.ClassFile.FieldType)) ∈ lw_all := lw_g (lw_at lw_m13 192 rfl) rfl
theorem q3150 : (Jvm.Cond.instanceMethod ({ cls := "KeygroveModel", name := "pack", desc := "(I)I" } : Jvm.MethodName)) ∈ lw_all := lw_g (lw_at lw_m13 194 rfl) rfl
theorem q3151 : (Jvm.Cond.selects "KeygroveModel" ({ cls := "KeygroveModel", name := "pack", desc := "(I)I" } : Jvm.MethodName) ({ cls := "KeygroveModel", name := "pack", desc := "(I)I" } : Jvm.MethodName)) ∈ lw_all := lw_g (lw_at lw_m13 195 rfl) rfl
theorem q3152 : (Jvm.Cond.code ({ cls := "KeygroveModel", name := "pack", desc := "(I)I" } : Jvm.MethodName) prog_15_method_26_code (3 : Nat) (Option.some Jvm.ClassFile.FieldType.int)) ∈ lw_all := lw_g (lw_at lw_m13 196 rfl) rfl
theorem q3153 : (Jvm.Cond.methodLink "KeygroveModel" (226 : Nat) ({ cls := "KeygroveModel", name := "isPerson", desc := "(I)Z" } : Jvm.MethodName)) ∈ lw_all := lw_g (lw_at lw_m13 197 rfl) rfl
theorem q3154 : (Jvm.Cond.privateMethod ({ cls := "KeygroveModel", name := "isPerson", desc := "(I)Z" } : Jvm.MethodName)) ∈ lw_tbl := lw_at lw_m13 198 rfl
theorem q3155 : (Jvm.Cond.instanceMethod ({ cls := "KeygroveModel", name := "isPerson", desc := "(I)Z" } : Jvm.MethodName)) ∈ lw_all := lw_g (lw_at lw_m13 199 rfl) rfl
theorem q3156 : (Jvm.Cond.code ({ cls := "KeygroveModel", name := "isPerson", desc := "(I)Z" } : Jvm.MethodName) prog_15_method_23_code (2 : Nat) (Option.some Jvm.ClassFile.FieldType.boolean)) ∈ lw_all := lw_g (lw_at lw_m13 200 rfl) rfl
theorem q3157 : (Jvm.Cond.methodLink "KeygroveModel" (222 : Nat) ({ cls := "KeygroveModel", name := "isBetween", desc := "(III)Z" } : Jvm.MethodName)) ∈ lw_all := lw_g (lw_at lw_m13 201 rfl) rfl
theorem q3158 : (Jvm.Cond.static ({ cls := "KeygroveModel", name := "isBetween", desc := "(III)Z" } : Jvm.MethodName)) ∈ lw_all := lw_g (lw_at lw_m13 202 rfl) rfl
theorem q3159 : (Jvm.Cond.code ({ cls := "KeygroveModel", name := "isBetween", desc := "(III)Z" } : Jvm.MethodName) prog_15_method_4_code (3 : Nat) (Option.some Jvm.ClassFile.FieldType.boolean)) ∈ lw_all := lw_g (lw_at lw_m13 203 rfl) rfl
theorem q3160 : (Jvm.Cond.methodLink "KeygroveModel" (238 : Nat) ({ cls := "KeygroveModel", name := "drawn", desc := "()I" } : Jvm.MethodName)) ∈ lw_all := lw_g (lw_at lw_m13 204 rfl) rfl
theorem q3161 : (Jvm.Cond.privateMethod ({ cls := "KeygroveModel", name := "drawn", desc := "()I" } : Jvm.MethodName)) ∈ lw_tbl := lw_at lw_m13 205 rfl
theorem q3162 : (Jvm.Cond.instanceMethod ({ cls := "KeygroveModel", name := "drawn", desc := "()I" } : Jvm.MethodName)) ∈ lw_all := lw_g (lw_at lw_m13 206 rfl) rfl
theorem q3163 : (Jvm.Cond.code ({ cls := "KeygroveModel", name := "drawn", desc := "()I" } : Jvm.MethodName) prog_15_method_7_code (1 : Nat) (Option.some Jvm.ClassFile.FieldType.int)) ∈ lw_all := lw_g (lw_at lw_m13 207 rfl) rfl
theorem q3164 : (Jvm.Cond.constant "KeygroveModel" (60 : Nat) (1103515245 : Int32)) ∈ lw_all := lw_g (lw_at lw_m13 208 rfl) rfl
theorem q3165 : (Jvm.Cond.methodLink "KeygroveModel" (61 : Nat) ({ cls := "KeygroveModel", name := "mix", desc := "(II)I" } : Jvm.MethodName)) ∈ lw_all := lw_g (lw_at lw_m13 209 rfl) rfl
theorem q3166 : (Jvm.Cond.static ({ cls := "KeygroveModel", name := "mix", desc := "(II)I" } : Jvm.MethodName)) ∈ lw_all := lw_g (lw_at lw_m13 210 rfl) rfl
theorem q3167 : (Jvm.Cond.code ({ cls := "KeygroveModel", name := "mix", desc := "(II)I" } : Jvm.MethodName) prog_15_method_5_code (3 : Nat) (Option.some Jvm.ClassFile.FieldType.int)) ∈ lw_all := lw_g (lw_at lw_m13 211 rfl) rfl
theorem q3168 : (Jvm.Cond.constant "KeygroveModel" (44 : Nat) (-1640531527 : Int32)) ∈ lw_all := lw_g (lw_at lw_m13 212 rfl) rfl
theorem q3169 : (Jvm.Cond.constant "KeygroveModel" (45 : Nat) (-2048144789 : Int32)) ∈ lw_all := lw_g (lw_at lw_m13 213 rfl) rfl
theorem q3170 : (Jvm.Cond.constant "KeygroveModel" (46 : Nat) (-1028477387 : Int32)) ∈ lw_all := lw_g (lw_at lw_m13 214 rfl) rfl
theorem q3171 : (Jvm.Cond.methodLink "KeygroveModel" (65 : Nat) ({ cls := "KeygroveModel", name := "laid", desc := "(IIII)I" } : Jvm.MethodName)) ∈ lw_all := lw_g (lw_at lw_m13 215 rfl) rfl
theorem q3172 : (Jvm.Cond.privateMethod ({ cls := "KeygroveModel", name := "laid", desc := "(IIII)I" } : Jvm.MethodName)) ∈ lw_tbl := lw_at lw_m13 216 rfl
theorem q3173 : (Jvm.Cond.instanceMethod ({ cls := "KeygroveModel", name := "laid", desc := "(IIII)I" } : Jvm.MethodName)) ∈ lw_all := lw_g (lw_at lw_m13 217 rfl) rfl
theorem q3174 : (Jvm.Cond.code ({ cls := "KeygroveModel", name := "laid", desc := "(IIII)I" } : Jvm.MethodName) prog_15_method_6_code (5 : Nat) (Option.some Jvm.ClassFile.FieldType.int)) ∈ lw_all := lw_g (lw_at lw_m13 218 rfl) rfl
theorem q3175 : (Jvm.Cond.classLink "KeygroveModel" (47 : Nat) "KeygroveModel$Secret") ∈ lw_all := lw_g (lw_at lw_m13 219 rfl) rfl
theorem q3177 : (Jvm.Cond.methodLink "KeygroveModel" (49 : Nat) ({ cls := "KeygroveModel$Secret", name := "<init>", desc := "(IIII)V" } : Jvm.MethodName)) ∈ lw_all := lw_g (lw_at lw_m13 221 rfl) rfl
theorem q3182 : (Jvm.Cond.fieldLinkNest "KeygroveModel" (82 : Nat) "KeygroveModel$Secret" "value" "I" "KeygroveModel") ∈ lw_tbl := lw_at lw_m13 226 rfl
theorem q3184 : (Jvm.Cond.fieldLinkNest "KeygroveModel" (73 : Nat) "KeygroveModel$Secret" "one" "I" "KeygroveModel") ∈ lw_tbl := lw_at lw_m13 228 rfl
theorem q3186 : (Jvm.Cond.fieldLinkNest "KeygroveModel" (76 : Nat) "KeygroveModel$Secret" "other" "I" "KeygroveModel") ∈ lw_tbl := lw_at lw_m13 230 rfl
theorem q3188 : (Jvm.Cond.fieldLinkNest "KeygroveModel" (79 : Nat) "KeygroveModel$Secret" "label" "I" "KeygroveModel") ∈ lw_tbl := lw_at lw_m13 232 rfl
theorem q3198 : (Jvm.Cond.classLink "KeygroveModel" (159 : Nat) "KeygroveModel$Pack") ∈ lw_all := lw_g (lw_at lw_m14 2 rfl) rfl
theorem q3200 : (Jvm.Cond.methodLink "KeygroveModel" (241 : Nat) ({ cls := "KeygroveModel$Pack", name := "<init>", desc := "(III)V" } : Jvm.MethodName)) ∈ lw_all := lw_g (lw_at lw_m14 4 rfl) rfl
theorem q3205 : (Jvm.Cond.fieldLinkNest "KeygroveModel" (161 : Nat) "KeygroveModel$Pack" "person" "I" "KeygroveModel") ∈ lw_tbl := lw_at lw_m14 9 rfl
theorem q3207 : (Jvm.Cond.fieldLinkNest "KeygroveModel" (168 : Nat) "KeygroveModel$Pack" "first" "I" "KeygroveModel") ∈ lw_tbl := lw_at lw_m14 11 rfl
theorem q3209 : (Jvm.Cond.fieldLinkNest "KeygroveModel" (175 : Nat) "KeygroveModel$Pack" "second" "I" "KeygroveModel") ∈ lw_tbl := lw_at lw_m14 13 rfl
theorem q3210 : (Jvm.Cond.fieldLinkNest "KeygroveModel" (293 : Nat) "KeygroveModel$Pack" "isUsed" "Z" "KeygroveModel") ∈ lw_tbl := lw_at lw_m14 14 rfl
theorem q3211 : (Jvm.Cond.fieldLinkNest "KeygroveModel" (164 : Nat) "KeygroveModel$Pack" "isGone" "Z" "KeygroveModel") ∈ lw_tbl := lw_at lw_m14 15 rfl
theorem q3223 : (Jvm.Cond.methodLink "KeygroveModel" (244 : Nat) ({ cls := "KeygroveModel", name := "notes", desc := "()V" } : Jvm.MethodName)) ∈ lw_all := lw_g (lw_at lw_m14 27 rfl) rfl
theorem q3224 : (Jvm.Cond.privateMethod ({ cls := "KeygroveModel", name := "notes", desc := "()V" } : Jvm.MethodName)) ∈ lw_tbl := lw_at lw_m14 28 rfl
theorem q3225 : (Jvm.Cond.instanceMethod ({ cls := "KeygroveModel", name := "notes", desc := "()V" } : Jvm.MethodName)) ∈ lw_all := lw_g (lw_at lw_m14 29 rfl) rfl
theorem q3226 : (Jvm.Cond.code ({ cls := "KeygroveModel", name := "notes", desc := "()V" } : Jvm.MethodName) prog_15_method_20_code (4 : Nat) (Option.none : Option Jvm.ClassFile.FieldType)) ∈ lw_all := lw_g (lw_at lw_m14 30 rfl) rfl
theorem q3227 : (Jvm.Cond.methodLink "KeygroveModel" (207 : Nat) ({ cls := "KeygroveModel", name := "heldBy", desc := "(I)Ljava/util/ArrayList;" } : Jvm.MethodName)) ∈ lw_all := lw_g (lw_at lw_m14 31 rfl) rfl
theorem q3228 : (Jvm.Cond.privateMethod ({ cls := "KeygroveModel", name := "heldBy", desc := "(I)Ljava/util/ArrayList;" } : Jvm.MethodName)) ∈ lw_tbl := lw_at lw_m14 32 rfl
theorem q3229 : (Jvm.Cond.instanceMethod ({ cls := "KeygroveModel", name := "heldBy", desc := "(I)Ljava/util/ArrayList;" } : Jvm.MethodName)) ∈ lw_all := lw_g (lw_at lw_m14 33 rfl) rfl
theorem q3230 : (Jvm.Cond.code ({ cls := "KeygroveModel", name := "heldBy", desc := "(I)Ljava/util/ArrayList;" } : Jvm.MethodName) prog_15_method_19_code (11 : Nat) (Option.some (Jvm.ClassFile.FieldType.object "java/util/ArrayList"))) ∈ lw_all := lw_g (lw_at lw_m14 34 rfl) rfl
theorem q3231 : (Jvm.Cond.methodLink "KeygroveModel" (69 : Nat) ({ cls := "java/util/ArrayList", name := "get", desc := "(I)Ljava/lang/Object;" } : Jvm.MethodName)) ∈ lw_all := lw_g (lw_at lw_m14 35 rfl) rfl
theorem q3232 : (Jvm.Cond.methodLink "KeygroveModel" (97 : Nat) ({ cls := "java/util/ArrayList", name := "iterator", desc := "()Ljava/util/Iterator;" } : Jvm.MethodName)) ∈ lw_all := lw_g (lw_at lw_m14 36 rfl) rfl
theorem q3233 : (Jvm.Cond.interfaceEntry "KeygroveModel" (101 : Nat)) ∈ lw_tbl := lw_at lw_m14 37 rfl
theorem q3234 : (Jvm.Cond.methodLink "KeygroveModel" (101 : Nat) ({ cls := "java/util/Iterator", name := "hasNext", desc := "()Z" } : Jvm.MethodName)) ∈ lw_all := lw_g (lw_at lw_m14 38 rfl) rfl
theorem q3235 : (Jvm.Cond.interfaceEntry "KeygroveModel" (107 : Nat)) ∈ lw_tbl := lw_at lw_m14 39 rfl
theorem q3236 : (Jvm.Cond.methodLink "KeygroveModel" (107 : Nat) ({ cls := "java/util/Iterator", name := "next", desc := "()Ljava/lang/Object;" } : Jvm.MethodName)) ∈ lw_all := lw_g (lw_at lw_m14 40 rfl) rfl
theorem q3237 : (Jvm.Cond.methodLink "KeygroveModel" (171 : Nat) ({ cls := "KeygroveModel", name := "puts", desc := "(Ljava/util/ArrayList;I)V" } : Jvm.MethodName)) ∈ lw_all := lw_g (lw_at lw_m14 41 rfl) rfl
theorem q3238 : (Jvm.Cond.static ({ cls := "KeygroveModel", name := "puts", desc := "(Ljava/util/ArrayList;I)V" } : Jvm.MethodName)) ∈ lw_all := lw_g (lw_at lw_m14 42 rfl) rfl
theorem q3239 : (Jvm.Cond.code ({ cls := "KeygroveModel", name := "puts", desc := "(Ljava/util/ArrayList;I)V" } : Jvm.MethodName) prog_15_method_18_code (4 : Nat) (Option.none : Option Jvm.ClassFile.FieldType)) ∈ lw_all := lw_g (lw_at lw_m14 43 rfl) rfl
theorem q3240 : (Jvm.Cond.classLink "KeygroveModel" (111 : Nat) "java/lang/Integer") ∈ lw_all := lw_g (lw_at lw_m14 44 rfl) rfl
theorem q3241 : (Jvm.Cond.methodLink "KeygroveModel" (113 : Nat) ({ cls := "java/lang/Integer", name := "intValue", desc := "()I" } : Jvm.MethodName)) ∈ lw_all := lw_g (lw_at lw_m14 45 rfl) rfl
theorem q3242 : (Jvm.Cond.methodLink "KeygroveModel" (135 : Nat) ({ cls := "java/lang/Integer", name := "valueOf", desc := "(I)Ljava/lang/Integer;" } : Jvm.MethodName)) ∈ lw_all := lw_g (lw_at lw_m14 46 rfl) rfl
theorem q3243 : (Jvm.Cond.classLink "KeygroveModel" (130 : Nat) "KeygroveModel$Epoch") ∈ lw_all := lw_g (lw_at lw_m14 47 rfl) rfl
theorem q3245 : (Jvm.Cond.instanceMethod ({ cls := "KeygroveModel", name := "create", desc := "(I)I" } : Jvm.MethodName)) ∈ lw_all := lw_g (lw_at lw_m14 49 rfl) rfl
theorem q3246 : (Jvm.Cond.selects "KeygroveModel" ({ cls := "KeygroveModel", name := "create", desc := "(I)I" } : Jvm.MethodName) ({ cls := "KeygroveModel", name := "create", desc := "(I)I" } : Jvm.MethodName)) ∈ lw_all := lw_g (lw_at lw_m14 50 rfl) rfl
theorem q3247 : (Jvm.Cond.code ({ cls := "KeygroveModel", name := "create", desc := "(I)I" } : Jvm.MethodName) prog_15_method_28_code (4 : Nat) (Option.some Jvm.ClassFile.FieldType.int)) ∈ lw_all := lw_g (lw_at lw_m14 51 rfl) rfl
theorem q3248 : (Jvm.Cond.methodLink "KeygroveModel" (250 : Nat) ({ cls := "java/util/ArrayList", name := "isEmpty", desc := "()Z" } : Jvm.MethodName)) ∈ lw_all := lw_g (lw_at lw_m14 52 rfl) rfl
theorem q3250 : (Jvm.Cond.methodLink "KeygroveModel" (253 : Nat) ({ cls := "KeygroveModel$Epoch", name := "<init>", desc := "(I)V" } : Jvm.MethodName)) ∈ lw_all := lw_g (lw_at lw_m14 54 rfl) rfl
theorem q3255 : (Jvm.Cond.fieldLinkNest "KeygroveModel" (214 : Nat) "KeygroveModel$Epoch" "number" "I" "KeygroveModel") ∈ lw_tbl := lw_at lw_m14 59 rfl
theorem q3257 : (Jvm.Cond.fieldLinkNest "KeygroveModel" (247 : Nat) "KeygroveModel$Epoch" "leaves" "I" "KeygroveModel") ∈ lw_tbl := lw_at lw_m14 61 rfl
theorem q3258 : (Jvm.Cond.fieldLinkNest "KeygroveModel" (189 : Nat) "KeygroveModel$Epoch" "goes" "I" "KeygroveModel") ∈ lw_tbl := lw_at lw_m14 62 rfl
theorem q3259 : (Jvm.Cond.fieldLinkNest "KeygroveModel" (192 : Nat) "KeygroveModel$Epoch" "key" "I" "KeygroveModel") ∈ lw_tbl := lw_at lw_m14 63 rfl
theorem q3261 : (Jvm.Cond.fieldLinkNest "KeygroveModel" (254 : Nat) "KeygroveModel$Epoch" "persons" "[I" "KeygroveModel") ∈ lw_tbl := lw_at lw_m14 65 rfl
theorem q3263 : (Jvm.Cond.fieldLinkNest "KeygroveModel" (129 : Nat) "KeygroveModel$Epoch" "node" "[I" "KeygroveModel") ∈ lw_tbl := lw_at lw_m14 67 rfl
theorem q3265 : (Jvm.Cond.fieldLinkNest "KeygroveModel" (139 : Nat) "KeygroveModel$Epoch" "late" "[I" "KeygroveModel") ∈ lw_tbl := lw_at lw_m14 69 rfl
theorem q3267 : (Jvm.Cond.fieldLinkNest "KeygroveModel" (217 : Nat) "KeygroveModel$Epoch" "chains" "[I" "KeygroveModel") ∈ lw_tbl := lw_at lw_m14 71 rfl
theorem q3269 : (Jvm.Cond.fieldLinkNest "KeygroveModel" (328 : Nat) "KeygroveModel$Epoch" "isOnWay" "[Z" "KeygroveModel") ∈ lw_tbl := lw_at lw_m14 73 rfl
theorem q3271 : (Jvm.Cond.fieldLinkNest "KeygroveModel" (308 : Nat) "KeygroveModel$Epoch" "isRemoved" "[Z" "KeygroveModel") ∈ lw_tbl := lw_at lw_m14 75 rfl
theorem q3273 : (Jvm.Cond.fieldLinkNest "KeygroveModel" (319 : Nat) "KeygroveModel$Epoch" "packs" "[I" "KeygroveModel") ∈ lw_tbl := lw_at lw_m14 77 rfl
theorem q3298 : (Jvm.Cond.methodLink "KeygroveModel" (256 : Nat) ({ cls := "KeygroveModel", name := "begins", desc := "(LKeygroveModel$Epoch;I)V" } : Jvm.MethodName)) ∈ lw_all := lw_g (lw_at lw_m14 102 rfl) rfl
theorem q3299 : (Jvm.Cond.privateMethod ({ cls := "KeygroveModel", name := "begins", desc := "(LKeygroveModel$Epoch;I)V" } : Jvm.MethodName)) ∈ lw_tbl := lw_at lw_m14 103 rfl
theorem q3300 : (Jvm.Cond.instanceMethod ({ cls := "KeygroveModel", name := "begins", desc := "(LKeygroveModel$Epoch;I)V" } : Jvm.MethodName)) ∈ lw_all := lw_g (lw_at lw_m14 104 rfl) rfl
theorem q3301 : (Jvm.Cond.code ({ cls := "KeygroveModel", name := "begins", desc := "(LKeygroveModel$Epoch;I)V" } : Jvm.MethodName) prog_15_method_27_code (4 : Nat) (Option.none : Option Jvm.ClassFile.FieldType)) ∈ lw_all := lw_g (lw_at lw_m14 105 rfl) rfl
theorem q3302 : (Jvm.Cond.methodLink "KeygroveModel" (87 : Nat) ({ cls := "KeygroveModel", name := "of", desc := "(III)I" } : Jvm.MethodName)) ∈ lw_all := lw_g (lw_at lw_m14 106 rfl) rfl
theorem q3303 : (Jvm.Cond.privateMethod ({ cls := "KeygroveModel", name := "of", desc := "(III)I" } : Jvm.MethodName)) ∈ lw_tbl := lw_at lw_m14 107 rfl
theorem q3304 : (Jvm.Cond.instanceMethod ({ cls := "KeygroveModel", name := "of", desc := "(III)I" } : Jvm.MethodName)) ∈ lw_all := lw_g (lw_at lw_m14 108 rfl) rfl
theorem q3305 : (Jvm.Cond.code ({ cls := "KeygroveModel", name := "of", desc := "(III)I" } : Jvm.MethodName) prog_15_method_8_code (6 : Nat) (Option.some Jvm.ClassFile.FieldType.int)) ∈ lw_all := lw_g (lw_at lw_m14 109 rfl) rfl
theorem q3306 : (Jvm.Cond.methodLink "KeygroveModel" (263 : Nat) ({ cls := "KeygroveModel", name := "comes", desc := "(LKeygroveModel$Person;LKeygroveModel$Epoch;)V" } : Jvm.MethodName)) ∈ lw_all := lw_g (lw_at lw_m14 110 rfl) rfl
theorem q3307 : (Jvm.Cond.privateMethod ({ cls := "KeygroveModel", name := "comes", desc := "(LKeygroveModel$Person;LKeygroveModel$Epoch;)V" } : Jvm.MethodName)) ∈ lw_tbl := lw_at lw_m14 111 rfl
theorem q3308 : (Jvm.Cond.instanceMethod ({ cls := "KeygroveModel", name := "comes", desc := "(LKeygroveModel$Person;LKeygroveModel$Epoch;)V" } : Jvm.MethodName)) ∈ lw_all := lw_g (lw_at lw_m14 112 rfl) rfl
theorem q3309 : (Jvm.Cond.code ({ cls := "KeygroveModel", name := "comes", desc := "(LKeygroveModel$Person;LKeygroveModel$Epoch;)V" } : Jvm.MethodName) prog_15_method_22_code (4 : Nat) (Option.none : Option Jvm.ClassFile.FieldType)) ∈ lw_all := lw_g (lw_at lw_m14 113 rfl) rfl
theorem q3310 : (Jvm.Cond.classLink "KeygroveModel" (200 : Nat) "KeygroveModel$Chain") ∈ lw_all := lw_g (lw_at lw_m14 114 rfl) rfl
theorem q3312 : (Jvm.Cond.methodLink "KeygroveModel" (219 : Nat) ({ cls := "KeygroveModel$Chain", name := "<init>", desc := "(I)V" } : Jvm.MethodName)) ∈ lw_all := lw_g (lw_at lw_m14 116 rfl) rfl
theorem q3319 : (Jvm.Cond.fieldLinkNest "KeygroveModel" (199 : Nat) "KeygroveModel$Chain" "secret" "I" "KeygroveModel") ∈ lw_tbl := lw_at lw_m14 123 rfl
theorem q3320 : (Jvm.Cond.fieldLinkNest "KeygroveModel" (371 : Nat) "KeygroveModel$Chain" "place" "I" "KeygroveModel") ∈ lw_tbl := lw_at lw_m14 124 rfl
theorem q3322 : (Jvm.Cond.fieldLinkNest "KeygroveModel" (383 : Nat) "KeygroveModel$Chain" "places" "Ljava/util/ArrayList;" "KeygroveModel") ∈ lw_tbl := lw_at lw_m14 126 rfl
theorem q3324 : (Jvm.Cond.fieldLinkNest "KeygroveModel" (204 : Nat) "KeygroveModel$Chain" "keys" "Ljava/util/ArrayList;" "KeygroveModel") ∈ lw_tbl := lw_at lw_m14 128 rfl
theorem q3335 : (Jvm.Cond.instanceMethod ({ cls := "KeygroveModel", name := "seed", desc := "(I)I" } : Jvm.MethodName)) ∈ lw_all := lw_g (lw_at lw_m14 139 rfl) rfl
theorem q3336 : (Jvm.Cond.selects "KeygroveModel" ({ cls := "KeygroveModel", name := "seed", desc := "(I)I" } : Jvm.MethodName) ({ cls := "KeygroveModel", name := "seed", desc := "(I)I" } : Jvm.MethodName)) ∈ lw_all := lw_g (lw_at lw_m14 140 rfl) rfl
theorem q3337 : (Jvm.Cond.code ({ cls := "KeygroveModel", name := "seed", desc := "(I)I" } : Jvm.MethodName) prog_15_method_29_code (3 : Nat) (Option.some Jvm.ClassFile.FieldType.int)) ∈ lw_all := lw_g (lw_at lw_m14 141 rfl) rfl
theorem q3339 : (Jvm.Cond.instanceMethod ({ cls := "KeygroveModel", name := "epoch", desc := "()I" } : Jvm.MethodName)) ∈ lw_all := lw_g (lw_at lw_m14 143 rfl) rfl
theorem q3340 : (Jvm.Cond.selects "KeygroveModel" ({ cls := "KeygroveModel", name := "epoch", desc := "()I" } : Jvm.MethodName) ({ cls := "KeygroveModel", name := "epoch", desc := "()I" } : Jvm.MethodName)) ∈ lw_all := lw_g (lw_at lw_m14 144 rfl) rfl
theorem q3341 : (Jvm.Cond.code ({ cls := "KeygroveModel", name := "epoch", desc := "()I" } : Jvm.MethodName) prog_15_method_31_code (1 : Nat) (Option.some Jvm.ClassFile.FieldType.int)) ∈ lw_all := lw_g (lw_at lw_m14 145 rfl) rfl
theorem q3343 : (Jvm.Cond.instanceMethod ({ cls := "KeygroveModel", name := "epochOf", desc := "(I)I" } : Jvm.MethodName)) ∈ lw_all := lw_g (lw_at lw_m14 147 rfl) rfl
theorem q3344 : (Jvm.Cond.selects "KeygroveModel" ({ cls := "KeygroveModel", name := "epochOf", desc := "(I)I" } : Jvm.MethodName) ({ cls := "KeygroveModel", name := "epochOf", desc := "(I)I" } : Jvm.MethodName)) ∈ lw_all := lw_g (lw_at lw_m14 148 rfl) rfl
theorem q3345 : (Jvm.Cond.code ({ cls := "KeygroveModel", name := "epochOf", desc := "(I)I" } : Jvm.MethodName) prog_15_method_33_code (2 : Nat) (Option.some Jvm.ClassFile.FieldType.int)) ∈ lw_all := lw_g (lw_at lw_m14 149 rfl) rfl
theorem q3346 : (Jvm.Cond.methodLink "KeygroveModel" (267 : Nat) ({ cls := "KeygroveModel", name := "isInNone", desc := "(I)Z" } : Jvm.MethodName)) ∈ lw_all := lw_g (lw_at lw_m14 150 rfl) rfl
theorem q3347 : (Jvm.Cond.privateMethod ({ cls := "KeygroveModel", name := "isInNone", desc := "(I)Z" } : Jvm.MethodName)) ∈ lw_tbl := lw_at lw_m14 151 rfl
theorem q3348 : (Jvm.Cond.instanceMethod ({ cls := "KeygroveModel", name := "isInNone", desc := "(I)Z" } : Jvm.MethodName)) ∈ lw_all := lw_g (lw_at lw_m14 152 rfl) rfl
theorem q3349 : (Jvm.Cond.code ({ cls := "KeygroveModel", name := "isInNone", desc := "(I)Z" } : Jvm.MethodName) prog_15_method_32_code (2 : Nat) (Option.some Jvm.ClassFile.FieldType.boolean)) ∈ lw_all := lw_g (lw_at lw_m14 153 rfl) rfl
theorem q3351 : (Jvm.Cond.instanceMethod ({ cls := "KeygroveModel", name := "leafOf", desc := "(I)I" } : Jvm.MethodName)) ∈ lw_all := lw_g (lw_at lw_m14 155 rfl) rfl
theorem q3352 : (Jvm.Cond.selects "KeygroveModel" ({ cls := "KeygroveModel", name := "leafOf", desc := "(I)I" } : Jvm.MethodName) ({ cls := "KeygroveModel", name := "leafOf", desc := "(I)I" } : Jvm.MethodName)) ∈ lw_all := lw_g (lw_at lw_m14 156 rfl) rfl
theorem q3353 : (Jvm.Cond.code ({ cls := "KeygroveModel", name := "leafOf", desc := "(I)I" } : Jvm.MethodName) prog_15_method_34_code (2 : Nat) (Option.some Jvm.ClassFile.FieldType.int)) ∈ lw_all := lw_g (lw_at lw_m14 157 rfl) rfl
theorem q3355 : (Jvm.Cond.instanceMethod ({ cls := "KeygroveModel", name := "isMember", desc := "(II)Z" } : Jvm.MethodName)) ∈ lw_all := lw_g (lw_at lw_m14 159 rfl) rfl
theorem q3356 : (Jvm.Cond.selects "KeygroveModel" ({ cls := "KeygroveModel", name := "isMember", desc := "(II)Z" } : Jvm.MethodName) ({ cls := "KeygroveModel", name := "isMember", desc := "(II)Z" } : Jvm.MethodName)) ∈ lw_all := lw_g (lw_at lw_m14 160 rfl) rfl
theorem q3357 : (Jvm.Cond.code ({ cls := "KeygroveModel", name := "isMember", desc := "(II)Z" } : Jvm.MethodName) prog_15_method_37_code (3 : Nat) (Option.some Jvm.ClassFile.FieldType.boolean)) ∈ lw_all := lw_g (lw_at lw_m14 161 rfl) rfl
theorem q3358 : (Jvm.Cond.methodLink "KeygroveModel" (270 : Nat) ({ cls := "KeygroveModel", name := "isEpoch", desc := "(I)Z" } : Jvm.MethodName)) ∈ lw_all := lw_g (lw_at lw_m14 162 rfl) rfl
theorem q3359 : (Jvm.Cond.privateMethod ({ cls := "KeygroveModel", name := "isEpoch", desc := "(I)Z" } : Jvm.MethodName)) ∈ lw_tbl := lw_at lw_m14 163 rfl
theorem q3360 : (Jvm.Cond.instanceMethod ({ cls := "KeygroveModel", name := "isEpoch", desc := "(I)Z" } : Jvm.MethodName)) ∈ lw_all := lw_g (lw_at lw_m14 164 rfl) rfl
theorem q3361 : (Jvm.Cond.code ({ cls := "KeygroveModel", name := "isEpoch", desc := "(I)Z" } : Jvm.MethodName) prog_15_method_36_code (2 : Nat) (Option.some Jvm.ClassFile.FieldType.boolean)) ∈ lw_all := lw_g (lw_at lw_m14 165 rfl) rfl
theorem q3362 : (Jvm.Cond.methodLink "KeygroveModel" (273 : Nat) ({ cls := "KeygroveModel", name := "isIn", desc := "(ILKeygroveModel$Epoch;)Z" } : Jvm.MethodName)) ∈ lw_all := lw_g (lw_at lw_m14 166 rfl) rfl
theorem q3363 : (Jvm.Cond.privateMethod ({ cls := "KeygroveModel", name := "isIn", desc := "(ILKeygroveModel$Epoch;)Z" } : Jvm.MethodName)) ∈ lw_tbl := lw_at lw_m14 167 rfl
theorem q3364 : (Jvm.Cond.instanceMethod ({ cls := "KeygroveModel", name := "isIn", desc := "(ILKeygroveModel$Epoch;)Z" } : Jvm.MethodName)) ∈ lw_all := lw_g (lw_at lw_m14 168 rfl) rfl
theorem q3365 : (Jvm.Cond.code ({ cls := "KeygroveModel", name := "isIn", desc := "(ILKeygroveModel$Epoch;)Z" } : Jvm.MethodName) prog_15_method_35_code (7 : Nat) (Option.some Jvm.ClassFile.FieldType.boolean)) ∈ lw_all := lw_g (lw_at lw_m14 169 rfl) rfl
theorem q3367 : (Jvm.Cond.instanceMethod ({ cls := "KeygroveModel", name := "add", desc := "(II)I" } : Jvm.MethodName)) ∈ lw_all := lw_g (lw_at lw_m14 171 rfl) rfl
theorem q3368 : (Jvm.Cond.selects "KeygroveModel" ({ cls := "KeygroveModel", name := "add", desc := "(II)I" } : Jvm.MethodName) ({ cls := "KeygroveModel", name := "add", desc := "(II)I" } : Jvm.MethodName)) ∈ lw_all := lw_g (lw_at lw_m14 172 rfl) rfl
theorem q3369 : (Jvm.Cond.code ({ cls := "KeygroveModel", name := "add", desc := "(II)I" } : Jvm.MethodName) prog_15_method_41_code (5 : Nat) (Option.some Jvm.ClassFile.FieldType.int)) ∈ lw_all := lw_g (lw_at lw_m14 173 rfl) rfl
theorem q3370 : (Jvm.Cond.methodLink "KeygroveModel" (290 : Nat) ({ cls := "KeygroveModel", name := "isNew", desc := "(I)Z" } : Jvm.MethodName)) ∈ lw_all := lw_g (lw_at lw_m14 174 rfl) rfl
theorem q3371 : (Jvm.Cond.privateMethod ({ cls := "KeygroveModel", name := "isNew", desc := "(I)Z" } : Jvm.MethodName)) ∈ lw_tbl := lw_at lw_m14 175 rfl
theorem q3372 : (Jvm.Cond.instanceMethod ({ cls := "KeygroveModel", name := "isNew", desc := "(I)Z" } : Jvm.MethodName)) ∈ lw_all := lw_g (lw_at lw_m14 176 rfl) rfl
theorem q3373 : (Jvm.Cond.code ({ cls := "KeygroveModel", name := "isNew", desc := "(I)Z" } : Jvm.MethodName) prog_15_method_38_code (2 : Nat) (Option.some Jvm.ClassFile.FieldType.boolean)) ∈ lw_all := lw_g (lw_at lw_m14 177 rfl) rfl
theorem q3374 : (Jvm.Cond.methodLink "KeygroveModel" (296 : Nat) ({ cls := "KeygroveModel", name := "newest", desc := "()LKeygroveModel$Epoch;" } : Jvm.MethodName)) ∈ lw_all := lw_g (lw_at lw_m14 178 rfl) rfl
theorem q3375 : (Jvm.Cond.privateMethod ({ cls := "KeygroveModel", name := "newest", desc := "()LKeygroveModel$Epoch;" } : Jvm.MethodName)) ∈ lw_tbl := lw_at lw_m14 179 rfl
theorem q3376 : (Jvm.Cond.instanceMethod ({ cls := "KeygroveModel", name := "newest", desc := "()LKeygroveModel$Epoch;" } : Jvm.MethodName)) ∈ lw_all := lw_g (lw_at lw_m14 180 rfl) rfl
theorem q3377 : (Jvm.Cond.code ({ cls := "KeygroveModel", name := "newest", desc := "()LKeygroveModel$Epoch;" } : Jvm.MethodName) prog_15_method_30_code (1 : Nat) (Option.some (Jvm.ClassFile.FieldType.object "KeygroveModel$Epoch"))) ∈ lw_all := lw_g (lw_at lw_m14 181 rfl) rfl
theorem q3378 : (Jvm.Cond.methodLink "KeygroveModel" (300 : Nat) ({ cls := "KeygroveModel", name := "isProposed", desc := "(CI)Z" } : Jvm.MethodName)) ∈ lw_all := lw_g (lw_at lw_m14 182 rfl) rfl
theorem q3379 : (Jvm.Cond.privateMethod ({ cls := "KeygroveModel", name := "isProposed", desc := "(CI)Z" } : Jvm.MethodName)) ∈ lw_tbl := lw_at lw_m14 183 rfl
theorem q3380 : (Jvm.Cond.instanceMethod ({ cls := "KeygroveModel", name := "isProposed", desc := "(CI)Z" } : Jvm.MethodName)) ∈ lw_all := lw_g (lw_at lw_m14 184 rfl) rfl
theorem q3381 : (Jvm.Cond.code ({ cls := "KeygroveModel", name := "isProposed", desc := "(CI)Z" } : Jvm.MethodName) prog_15_method_39_code (5 : Nat) (Option.some Jvm.ClassFile.FieldType.boolean)) ∈ lw_all := lw_g (lw_at lw_m14 185 rfl) rfl
theorem q3382 : (Jvm.Cond.classLink "KeygroveModel" (277 : Nat) "KeygroveModel$Proposal") ∈ lw_all := lw_g (lw_at lw_m14 186 rfl) rfl
theorem q3383 : (Jvm.Cond.methodLink "KeygroveModel" (304 : Nat) ({ cls := "KeygroveModel", name := "proposed", desc := "(CII)I" } : Jvm.MethodName)) ∈ lw_all := lw_g (lw_at lw_m14 187 rfl) rfl
theorem q3384 : (Jvm.Cond.privateMethod ({ cls := "KeygroveModel", name := "proposed", desc := "(CII)I" } : Jvm.MethodName)) ∈ lw_tbl := lw_at lw_m14 188 rfl
theorem q3385 : (Jvm.Cond.instanceMethod ({ cls := "KeygroveModel", name := "proposed", desc := "(CII)I" } : Jvm.MethodName)) ∈ lw_all := lw_g (lw_at lw_m14 189 rfl) rfl
theorem q3386 : (Jvm.Cond.code ({ cls := "KeygroveModel", name := "proposed", desc := "(CII)I" } : Jvm.MethodName) prog_15_method_40_code (4 : Nat) (Option.some Jvm.ClassFile.FieldType.int)) ∈ lw_all := lw_g (lw_at lw_m14 190 rfl) rfl
theorem q3388 : (Jvm.Cond.methodLink "KeygroveModel" (287 : Nat) ({ cls := "KeygroveModel$Proposal", name := "<init>", desc := "(CII)V" } : Jvm.MethodName)) ∈ lw_all := lw_g (lw_at lw_m14 192 rfl) rfl
theorem q3393 : (Jvm.Cond.fieldLinkNest "KeygroveModel" (279 : Nat) "KeygroveModel$Proposal" "kind" "C" "KeygroveModel") ∈ lw_tbl := lw_at lw_m14 197 rfl
theorem q3395 : (Jvm.Cond.fieldLinkNest "KeygroveModel" (286 : Nat) "KeygroveModel$Proposal" "person" "I" "KeygroveModel") ∈ lw_tbl := lw_at lw_m14 199 rfl
theorem q3397 : (Jvm.Cond.fieldLinkNest "KeygroveModel" (283 : Nat) "KeygroveModel$Proposal" "what" "I" "KeygroveModel") ∈ lw_tbl := lw_at lw_m14 201 rfl
theorem q3406 : (Jvm.Cond.instanceMethod ({ cls := "KeygroveModel", name := "remove", desc := "(II)I" } : Jvm.MethodName)) ∈ lw_all := lw_g (lw_at lw_m14 210 rfl) rfl
theorem q3407 : (Jvm.Cond.selects "KeygroveModel" ({ cls := "KeygroveModel", name := "remove", desc := "(II)I" } : Jvm.MethodName) ({ cls := "KeygroveModel", name := "remove", desc := "(II)I" } : Jvm.MethodName)) ∈ lw_all := lw_g (lw_at lw_m14 211 rfl) rfl
theorem q3408 : (Jvm.Cond.code ({ cls := "KeygroveModel", name := "remove", desc := "(II)I" } : Jvm.MethodName) prog_15_method_42_code (4 : Nat) (Option.some Jvm.ClassFile.FieldType.int)) ∈ lw_all := lw_g (lw_at lw_m14 212 rfl) rfl
theorem q3410 : (Jvm.Cond.instanceMethod ({ cls := "KeygroveModel", name := "renew", desc := "(I)I" } : Jvm.MethodName)) ∈ lw_all := lw_g (lw_at lw_m14 214 rfl) rfl
theorem q3411 : (Jvm.Cond.selects "KeygroveModel" ({ cls := "KeygroveModel", name := "renew", desc := "(I)I" } : Jvm.MethodName) ({ cls := "KeygroveModel", name := "renew", desc := "(I)I" } : Jvm.MethodName)) ∈ lw_all := lw_g (lw_at lw_m14 215 rfl) rfl
theorem q3412 : (Jvm.Cond.code ({ cls := "KeygroveModel", name := "renew", desc := "(I)I" } : Jvm.MethodName) prog_15_method_43_code (2 : Nat) (Option.some Jvm.ClassFile.FieldType.int)) ∈ lw_all := lw_g (lw_at lw_m14 216 rfl) rfl
theorem q3414 : (Jvm.Cond.instanceMethod ({ cls := "KeygroveModel", name := "proposals", desc := "()I" } : Jvm.MethodName)) ∈ lw_all := lw_g (lw_at lw_m14 218 rfl) rfl
theorem q3415 : (Jvm.Cond.selects "KeygroveModel" ({ cls := "KeygroveModel", name := "proposals", desc := "()I" } : Jvm.MethodName) ({ cls := "KeygroveModel", name := "proposals", desc := "()I" } : Jvm.MethodName)) ∈ lw_all := lw_g (lw_at lw_m14 219 rfl) rfl
theorem q3416 : (Jvm.Cond.code ({ cls := "KeygroveModel", name := "proposals", desc := "()I" } : Jvm.MethodName) prog_15_method_44_code (1 : Nat) (Option.some Jvm.ClassFile.FieldType.int)) ∈ lw_all := lw_g (lw_at lw_m14 220 rfl) rfl
theorem q3418 : (Jvm.Cond.instanceMethod ({ cls := "KeygroveModel", name := "proposal", desc := "(I)C" } : Jvm.MethodName)) ∈ lw_all := lw_g (lw_at lw_m14 222 rfl) rfl
theorem q3419 : (Jvm.Cond.selects "KeygroveModel" ({ cls := "KeygroveModel", name := "proposal", desc := "(I)C" } : Jvm.MethodName) ({ cls := "KeygroveModel", name := "proposal", desc := "(I)C" } : Jvm.MethodName)) ∈ lw_all := lw_g (lw_at lw_m14 223 rfl) rfl
theorem q3420 : (Jvm.Cond.code ({ cls := "KeygroveModel", name := "proposal", desc := "(I)C" } : Jvm.MethodName) prog_15_method_45_code (2 : Nat) (Option.some Jvm.ClassFile.FieldType.char)) ∈ lw_all := lw_g (lw_at lw_m14 224 rfl) rfl
theorem q3422 : (Jvm.Cond.instanceMethod ({ cls := "KeygroveModel", name := "commit", desc := "(I)I" } : Jvm.MethodName)) ∈ lw_all := lw_g (lw_at lw_m14 226 rfl) rfl
theorem q3423 : (Jvm.Cond.selects "KeygroveModel" ({ cls := "KeygroveModel", name := "commit", desc := "(I)I" } : Jvm.MethodName) ({ cls := "KeygroveModel", name := "commit", desc := "(I)I" } : Jvm.MethodName)) ∈ lw_all := lw_g (lw_at lw_m14 227 rfl) rfl
theorem q3424 : (Jvm.Cond.code ({ cls := "KeygroveModel", name := "commit", desc := "(I)I" } : Jvm.MethodName) prog_15_method_50_code (9 : Nat) (Option.some Jvm.ClassFile.FieldType.int)) ∈ lw_all := lw_g (lw_at lw_m14 228 rfl) rfl
theorem q3425 : (Jvm.Cond.methodLink "KeygroveModel" (334 : Nat) ({ cls := "KeygroveModel$Epoch", name := "next", desc := "()LKeygroveModel$Epoch;" } : Jvm.MethodName)) ∈ lw_all := lw_g (lw_at lw_m14 229 rfl) rfl
theorem q3431 : (Jvm.Cond.methodLink "KeygroveModel" (312 : Nat) ({ cls := "KeygroveModel", name := "blanks", desc := "(LKeygroveModel$Epoch;I)V" } : Jvm.MethodName)) ∈ lw_all := lw_g (lw_at lw_m14 235 rfl) rfl
theorem q3432 : (Jvm.Cond.static ({ cls := "KeygroveModel", name := "blanks", desc := "(LKeygroveModel$Epoch;I)V" } : Jvm.MethodName)) ∈ lw_all := lw_g (lw_at lw_m14 236 rfl) rfl
theorem q3433 : (Jvm.Cond.code ({ cls := "KeygroveModel", name := "blanks", desc := "(LKeygroveModel$Epoch;I)V" } : Jvm.MethodName) prog_15_method_17_code (3 : Nat) (Option.none : Option Jvm.ClassFile.FieldType)) ∈ lw_all := lw_g (lw_at lw_m14 237 rfl) rfl
theorem q3434 : (Jvm.Cond.methodLink "KeygroveModel" (150 : Nat) ({ cls := "KeygroveModel$Epoch", name := "nodes", desc := "()I" } : Jvm.MethodName)) ∈ lw_all := lw_g (lw_at lw_m14 238 rfl) rfl
theorem q3438 : (Jvm.Cond.methodLink "KeygroveModel" (153 : Nat) ({ cls := "KeygroveModel", name := "isAbove", desc := "(II)Z" } : Jvm.MethodName)) ∈ lw_all := lw_g (lw_at lw_m15 2 rfl) rfl
theorem q3439 : (Jvm.Cond.static ({ cls := "KeygroveModel", name := "isAbove", desc := "(II)Z" } : Jvm.MethodName)) ∈ lw_all := lw_g (lw_at lw_m15 3 rfl) rfl
theorem q3440 : (Jvm.Cond.code ({ cls := "KeygroveModel", name := "isAbove", desc := "(II)Z" } : Jvm.MethodName) prog_15_method_12_code (3 : Nat) (Option.some Jvm.ClassFile.FieldType.boolean)) ∈ lw_all := lw_g (lw_at lw_m15 4 rfl) rfl
theorem q3441 : (Jvm.Cond.methodLink "KeygroveModel" (126 : Nat) ({ cls := "KeygroveModel", name := "level", desc := "(I)I" } : Jvm.MethodName)) ∈ lw_all := lw_g (lw_at lw_m15 5 rfl) rfl
theorem q3442 : (Jvm.Cond.static ({ cls := "KeygroveModel", name := "level", desc := "(I)I" } : Jvm.MethodName)) ∈ lw_all := lw_g (lw_at lw_m15 6 rfl) rfl
theorem q3443 : (Jvm.Cond.code ({ cls := "KeygroveModel", name := "level", desc := "(I)I" } : Jvm.MethodName) prog_15_method_11_code (1 : Nat) (Option.some Jvm.ClassFile.FieldType.int)) ∈ lw_all := lw_g (lw_at lw_m15 7 rfl) rfl
theorem q3444 : (Jvm.Cond.methodLink "KeygroveModel" (122 : Nat) ({ cls := "java/lang/Integer", name := "numberOfTrailingZeros", desc := "(I)I" } : Jvm.MethodName)) ∈ lw_all := lw_g (lw_at lw_m15 8 rfl) rfl
theorem q3445 : (Jvm.Cond.methodLink "KeygroveModel" (336 : Nat) ({ cls := "KeygroveModel", name := "removes", desc := "(LKeygroveModel$Epoch;)V" } : Jvm.MethodName)) ∈ lw_all := lw_g (lw_at lw_m15 9 rfl) rfl
theorem q3446 : (Jvm.Cond.privateMethod ({ cls := "KeygroveModel", name := "removes", desc := "(LKeygroveModel$Epoch;)V" } : Jvm.MethodName)) ∈ lw_tbl := lw_at lw_m15 10 rfl
theorem q3447 : (Jvm.Cond.instanceMethod ({ cls := "KeygroveModel", name := "removes", desc := "(LKeygroveModel$Epoch;)V" } : Jvm.MethodName)) ∈ lw_all := lw_g (lw_at lw_m15 11 rfl) rfl
theorem q3448 : (Jvm.Cond.code ({ cls := "KeygroveModel", name := "removes", desc := "(LKeygroveModel$Epoch;)V" } : Jvm.MethodName) prog_15_method_47_code (7 : Nat) (Option.none : Option Jvm.ClassFile.FieldType)) ∈ lw_all := lw_g (lw_at lw_m15 12 rfl) rfl
theorem q3449 : (Jvm.Cond.methodLink "KeygroveModel" (315 : Nat) ({ cls := "KeygroveModel", name := "isRightBlank", desc := "(LKeygroveModel$Epoch;)Z" } : Jvm.MethodName)) ∈ lw_all := lw_g (lw_at lw_m15 13 rfl) rfl
theorem q3450 : (Jvm.Cond.static ({ cls := "KeygroveModel", name := "isRightBlank", desc := "(LKeygroveModel$Epoch;)Z" } : Jvm.MethodName)) ∈ lw_all := lw_g (lw_at lw_m15 14 rfl) rfl
theorem q3451 : (Jvm.Cond.code ({ cls := "KeygroveModel", name := "isRightBlank", desc := "(LKeygroveModel$Epoch;)Z" } : Jvm.MethodName) prog_15_method_46_code (3 : Nat) (Option.some Jvm.ClassFile.FieldType.boolean)) ∈ lw_all := lw_g (lw_at lw_m15 15 rfl) rfl
theorem q3452 : (Jvm.Cond.methodLink "KeygroveModel" (340 : Nat) ({ cls := "KeygroveModel", name := "adds", desc := "(LKeygroveModel$Epoch;)V" } : Jvm.MethodName)) ∈ lw_all := lw_g (lw_at lw_m15 16 rfl) rfl
theorem q3453 : (Jvm.Cond.privateMethod ({ cls := "KeygroveModel", name := "adds", desc := "(LKeygroveModel$Epoch;)V" } : Jvm.MethodName)) ∈ lw_tbl := lw_at lw_m15 17 rfl
theorem q3454 : (Jvm.Cond.instanceMethod ({ cls := "KeygroveModel", name := "adds", desc := "(LKeygroveModel$Epoch;)V" } : Jvm.MethodName)) ∈ lw_all := lw_g (lw_at lw_m15 18 rfl) rfl
theorem q3455 : (Jvm.Cond.code ({ cls := "KeygroveModel", name := "adds", desc := "(LKeygroveModel$Epoch;)V" } : Jvm.MethodName) prog_15_method_48_code (7 : Nat) (Option.none : Option Jvm.ClassFile.FieldType)) ∈ lw_all := lw_g (lw_at lw_m15 19 rfl) rfl
theorem q3456 : (Jvm.Cond.methodLink "KeygroveModel" (343 : Nat) ({ cls := "KeygroveModel", name := "lays", desc := "(LKeygroveModel$Epoch;I)I" } : Jvm.MethodName)) ∈ lw_all := lw_g (lw_at lw_m15 20 rfl) rfl
theorem q3457 : (Jvm.Cond.privateMethod ({ cls := "KeygroveModel", name := "lays", desc := "(LKeygroveModel$Epoch;I)I" } : Jvm.MethodName)) ∈ lw_tbl := lw_at lw_m15 21 rfl
theorem q3458 : (Jvm.Cond.instanceMethod ({ cls := "KeygroveModel", name := "lays", desc := "(LKeygroveModel$Epoch;I)I" } : Jvm.MethodName)) ∈ lw_all := lw_g (lw_at lw_m15 22 rfl) rfl
theorem q3459 : (Jvm.Cond.code ({ cls := "KeygroveModel", name := "lays", desc := "(LKeygroveModel$Epoch;I)I" } : Jvm.MethodName) prog_15_method_49_code (10 : Nat) (Option.some Jvm.ClassFile.FieldType.int)) ∈ lw_all := lw_g (lw_at lw_m15 23 rfl) rfl
theorem q3460 : (Jvm.Cond.methodLink "KeygroveModel" (321 : Nat) ({ cls := "KeygroveModel", name := "nodeAbove", desc := "(II)I" } : Jvm.MethodName)) ∈ lw_all := lw_g (lw_at lw_m15 24 rfl) rfl
theorem q3461 : (Jvm.Cond.static ({ cls := "KeygroveModel", name := "nodeAbove", desc := "(II)I" } : Jvm.MethodName)) ∈ lw_all := lw_g (lw_at lw_m15 25 rfl) rfl
theorem q3462 : (Jvm.Cond.code ({ cls := "KeygroveModel", name := "nodeAbove", desc := "(II)I" } : Jvm.MethodName) prog_15_method_13_code (2 : Nat) (Option.some Jvm.ClassFile.FieldType.int)) ∈ lw_all := lw_g (lw_at lw_m15 26 rfl) rfl
theorem q3463 : (Jvm.Cond.methodLink "KeygroveModel" (142 : Nat) ({ cls := "KeygroveModel", name := "child", desc := "(IZ)I" } : Jvm.MethodName)) ∈ lw_all := lw_g (lw_at lw_m15 27 rfl) rfl
theorem q3464 : (Jvm.Cond.static ({ cls := "KeygroveModel", name := "child", desc := "(IZ)I" } : Jvm.MethodName)) ∈ lw_all := lw_g (lw_at lw_m15 28 rfl) rfl
theorem q3465 : (Jvm.Cond.code ({ cls := "KeygroveModel", name := "child", desc := "(IZ)I" } : Jvm.MethodName) prog_15_method_14_code (3 : Nat) (Option.some Jvm.ClassFile.FieldType.int)) ∈ lw_all := lw_g (lw_at lw_m15 29 rfl) rfl
theorem q3466 : (Jvm.Cond.methodLink "KeygroveModel" (324 : Nat) ({ cls := "KeygroveModel", name := "coverOf", desc := "(LKeygroveModel$Epoch;I)Ljava/util/ArrayList;" } : Jvm.MethodName)) ∈ lw_all := lw_g (lw_at lw_m15 30 rfl) rfl
theorem q3467 : (Jvm.Cond.static ({ cls := "KeygroveModel", name := "coverOf", desc := "(LKeygroveModel$Epoch;I)Ljava/util/ArrayList;" } : Jvm.MethodName)) ∈ lw_all := lw_g (lw_at lw_m15 31 rfl) rfl
theorem q3468 : (Jvm.Cond.code ({ cls := "KeygroveModel", name := "coverOf", desc := "(LKeygroveModel$Epoch;I)Ljava/util/ArrayList;" } : Jvm.MethodName) prog_15_method_16_code (3 : Nat) (Option.some (Jvm.ClassFile.FieldType.object "java/util/ArrayList"))) ∈ lw_all := lw_g (lw_at lw_m15 32 rfl) rfl
theorem q3469 : (Jvm.Cond.methodLink "KeygroveModel" (146 : Nat) ({ cls := "KeygroveModel", name := "covers", desc := "(LKeygroveModel$Epoch;ILjava/util/ArrayList;)V" } : Jvm.MethodName)) ∈ lw_all := lw_g (lw_at lw_m15 33 rfl) rfl
theorem q3470 : (Jvm.Cond.static ({ cls := "KeygroveModel", name := "covers", desc := "(LKeygroveModel$Epoch;ILjava/util/ArrayList;)V" } : Jvm.MethodName)) ∈ lw_all := lw_g (lw_at lw_m15 34 rfl) rfl
theorem q3471 : (Jvm.Cond.code ({ cls := "KeygroveModel", name := "covers", desc := "(LKeygroveModel$Epoch;ILjava/util/ArrayList;)V" } : Jvm.MethodName) prog_15_method_15_code (4 : Nat) (Option.none : Option Jvm.ClassFile.FieldType)) ∈ lw_all := lw_g (lw_at lw_m15 35 rfl) rfl
theorem q3472 : (Jvm.Cond.methodLink "KeygroveModel" (331 : Nat) ({ cls := "KeygroveModel", name := "boxed", desc := "(II)V" } : Jvm.MethodName)) ∈ lw_all := lw_g (lw_at lw_m15 36 rfl) rfl
theorem q3473 : (Jvm.Cond.privateMethod ({ cls := "KeygroveModel", name := "boxed", desc := "(II)V" } : Jvm.MethodName)) ∈ lw_tbl := lw_at lw_m15 37 rfl
theorem q3474 : (Jvm.Cond.instanceMethod ({ cls := "KeygroveModel", name := "boxed", desc := "(II)V" } : Jvm.MethodName)) ∈ lw_all := lw_g (lw_at lw_m15 38 rfl) rfl
theorem q3475 : (Jvm.Cond.code ({ cls := "KeygroveModel", name := "boxed", desc := "(II)V" } : Jvm.MethodName) prog_15_method_9_code (3 : Nat) (Option.none : Option Jvm.ClassFile.FieldType)) ∈ lw_all := lw_g (lw_at lw_m15 39 rfl) rfl
theorem q3476 : (Jvm.Cond.classLink "KeygroveModel" (85 : Nat) "KeygroveModel$Box") ∈ lw_all := lw_g (lw_at lw_m15 40 rfl) rfl
theorem q3478 : (Jvm.Cond.methodLink "KeygroveModel" (91 : Nat) ({ cls := "KeygroveModel$Box", name := "<init>", desc := "(II)V" } : Jvm.MethodName)) ∈ lw_all := lw_g (lw_at lw_m15 42 rfl) rfl
theorem q3483 : (Jvm.Cond.fieldLinkNest "KeygroveModel" (116 : Nat) "KeygroveModel$Box" "opener" "I" "KeygroveModel") ∈ lw_tbl := lw_at lw_m15 47 rfl
theorem q3485 : (Jvm.Cond.fieldLinkNest "KeygroveModel" (119 : Nat) "KeygroveModel$Box" "inside" "I" "KeygroveModel") ∈ lw_tbl := lw_at lw_m15 49 rfl
theorem q3491 : (Jvm.Cond.methodLink "KeygroveModel" (347 : Nat) ({ cls := "KeygroveModel", name := "lowest", desc := "(LKeygroveModel$Epoch;I)I" } : Jvm.MethodName)) ∈ lw_all := lw_g (lw_at lw_m15 55 rfl) rfl
theorem q3492 : (Jvm.Cond.static ({ cls := "KeygroveModel", name := "lowest", desc := "(LKeygroveModel$Epoch;I)I" } : Jvm.MethodName)) ∈ lw_all := lw_g (lw_at lw_m15 56 rfl) rfl
theorem q3493 : (Jvm.Cond.code ({ cls := "KeygroveModel", name := "lowest", desc := "(LKeygroveModel$Epoch;I)I" } : Jvm.MethodName) prog_15_method_51_code (3 : Nat) (Option.some Jvm.ClassFile.FieldType.int)) ∈ lw_all := lw_g (lw_at lw_m15 57 rfl) rfl
theorem q3494 : (Jvm.Cond.methodLink "KeygroveModel" (353 : Nat) ({ cls := "java/util/ArrayList", name := "clear", desc := "()V" } : Jvm.MethodName)) ∈ lw_all := lw_g (lw_at lw_m15 58 rfl) rfl
theorem q3495 : (Jvm.Cond.methodLink "KeygroveModel" (356 : Nat) ({ cls := "KeygroveModel", name := "gets", desc := "(LKeygroveModel$Person;LKeygroveModel$Epoch;I)V" } : Jvm.MethodName)) ∈ lw_all := lw_g (lw_at lw_m15 59 rfl) rfl
theorem q3496 : (Jvm.Cond.static ({ cls := "KeygroveModel", name := "gets", desc := "(LKeygroveModel$Person;LKeygroveModel$Epoch;I)V" } : Jvm.MethodName)) ∈ lw_all := lw_g (lw_at lw_m15 60 rfl) rfl
theorem q3497 : (Jvm.Cond.code ({ cls := "KeygroveModel", name := "gets", desc := "(LKeygroveModel$Person;LKeygroveModel$Epoch;I)V" } : Jvm.MethodName) prog_15_method_52_code (6 : Nat) (Option.none : Option Jvm.ClassFile.FieldType)) ∈ lw_all := lw_g (lw_at lw_m15 61 rfl) rfl
theorem q3499 : (Jvm.Cond.instanceMethod ({ cls := "KeygroveModel", name := "goOn", desc := "(I)C" } : Jvm.MethodName)) ∈ lw_all := lw_g (lw_at lw_m15 63 rfl) rfl
theorem q3500 : (Jvm.Cond.selects "KeygroveModel" ({ cls := "KeygroveModel", name := "goOn", desc := "(I)C" } : Jvm.MethodName) ({ cls := "KeygroveModel", name := "goOn", desc := "(I)C" } : Jvm.MethodName)) ∈ lw_all := lw_g (lw_at lw_m15 64 rfl) rfl
theorem q3501 : (Jvm.Cond.code ({ cls := "KeygroveModel", name := "goOn", desc := "(I)C" } : Jvm.MethodName) prog_15_method_53_code (4 : Nat) (Option.some Jvm.ClassFile.FieldType.char)) ∈ lw_all := lw_g (lw_at lw_m15 65 rfl) rfl
theorem q3503 : (Jvm.Cond.instanceMethod ({ cls := "KeygroveModel", name := "join", desc := "(I)I" } : Jvm.MethodName)) ∈ lw_all := lw_g (lw_at lw_m15 67 rfl) rfl
theorem q3504 : (Jvm.Cond.selects "KeygroveModel" ({ cls := "KeygroveModel", name := "join", desc := "(I)I" } : Jvm.MethodName) ({ cls := "KeygroveModel", name := "join", desc := "(I)I" } : Jvm.MethodName)) ∈ lw_all := lw_g (lw_at lw_m15 68 rfl) rfl
theorem q3505 : (Jvm.Cond.code ({ cls := "KeygroveModel", name := "join", desc := "(I)I" } : Jvm.MethodName) prog_15_method_54_code (7 : Nat) (Option.some Jvm.ClassFile.FieldType.int)) ∈ lw_all := lw_g (lw_at lw_m15 69 rfl) rfl
theorem q3506 : (Jvm.Cond.methodLink "KeygroveModel" (360 : Nat) ({ cls := "KeygroveModel", name := "isNoPerson", desc := "(I)Z" } : Jvm.MethodName)) ∈ lw_all := lw_g (lw_at lw_m15 70 rfl) rfl
theorem q3507 : (Jvm.Cond.privateMethod ({ cls := "KeygroveModel", name := "isNoPerson", desc := "(I)Z" } : Jvm.MethodName)) ∈ lw_tbl := lw_at lw_m15 71 rfl
theorem q3508 : (Jvm.Cond.instanceMethod ({ cls := "KeygroveModel", name := "isNoPerson", desc := "(I)Z" } : Jvm.MethodName)) ∈ lw_all := lw_g (lw_at lw_m15 72 rfl) rfl
theorem q3509 : (Jvm.Cond.code ({ cls := "KeygroveModel", name := "isNoPerson", desc := "(I)Z" } : Jvm.MethodName) prog_15_method_24_code (2 : Nat) (Option.some Jvm.ClassFile.FieldType.boolean)) ∈ lw_all := lw_g (lw_at lw_m15 73 rfl) rfl
theorem q3511 : (Jvm.Cond.instanceMethod ({ cls := "KeygroveModel", name := "leaves", desc := "()I" } : Jvm.MethodName)) ∈ lw_all := lw_g (lw_at lw_m15 75 rfl) rfl
theorem q3512 : (Jvm.Cond.selects "KeygroveModel" ({ cls := "KeygroveModel", name := "leaves", desc := "()I" } : Jvm.MethodName) ({ cls := "KeygroveModel", name := "leaves", desc := "()I" } : Jvm.MethodName)) ∈ lw_all := lw_g (lw_at lw_m15 76 rfl) rfl
theorem q3513 : (Jvm.Cond.code ({ cls := "KeygroveModel", name := "leaves", desc := "()I" } : Jvm.MethodName) prog_15_method_55_code (1 : Nat) (Option.some Jvm.ClassFile.FieldType.int)) ∈ lw_all := lw_g (lw_at lw_m15 77 rfl) rfl
theorem q3515 : (Jvm.Cond.instanceMethod ({ cls := "KeygroveModel", name := "isBlank", desc := "(I)Z" } : Jvm.MethodName)) ∈ lw_all := lw_g (lw_at lw_m15 79 rfl) rfl
theorem q3516 : (Jvm.Cond.selects "KeygroveModel" ({ cls := "KeygroveModel", name := "isBlank", desc := "(I)Z" } : Jvm.MethodName) ({ cls := "KeygroveModel", name := "isBlank", desc := "(I)Z" } : Jvm.MethodName)) ∈ lw_all := lw_g (lw_at lw_m15 80 rfl) rfl
theorem q3517 : (Jvm.Cond.code ({ cls := "KeygroveModel", name := "isBlank", desc := "(I)Z" } : Jvm.MethodName) prog_15_method_58_code (2 : Nat) (Option.some Jvm.ClassFile.FieldType.boolean)) ∈ lw_all := lw_g (lw_at lw_m15 81 rfl) rfl
theorem q3518 : (Jvm.Cond.methodLink "KeygroveModel" (366 : Nat) ({ cls := "KeygroveModel", name := "isNoNode", desc := "(I)Z" } : Jvm.MethodName)) ∈ lw_all := lw_g (lw_at lw_m15 82 rfl) rfl
theorem q3519 : (Jvm.Cond.privateMethod ({ cls := "KeygroveModel", name := "isNoNode", desc := "(I)Z" } : Jvm.MethodName)) ∈ lw_tbl := lw_at lw_m15 83 rfl
theorem q3520 : (Jvm.Cond.instanceMethod ({ cls := "KeygroveModel", name := "isNoNode", desc := "(I)Z" } : Jvm.MethodName)) ∈ lw_all := lw_g (lw_at lw_m15 84 rfl) rfl
theorem q3521 : (Jvm.Cond.code ({ cls := "KeygroveModel", name := "isNoNode", desc := "(I)Z" } : Jvm.MethodName) prog_15_method_57_code (2 : Nat) (Option.some Jvm.ClassFile.FieldType.boolean)) ∈ lw_all := lw_g (lw_at lw_m15 85 rfl) rfl
theorem q3522 : (Jvm.Cond.methodLink "KeygroveModel" (363 : Nat) ({ cls := "KeygroveModel", name := "isNode", desc := "(I)Z" } : Jvm.MethodName)) ∈ lw_all := lw_g (lw_at lw_m15 86 rfl) rfl
theorem q3523 : (Jvm.Cond.privateMethod ({ cls := "KeygroveModel", name := "isNode", desc := "(I)Z" } : Jvm.MethodName)) ∈ lw_tbl := lw_at lw_m15 87 rfl
theorem q3524 : (Jvm.Cond.instanceMethod ({ cls := "KeygroveModel", name := "isNode", desc := "(I)Z" } : Jvm.MethodName)) ∈ lw_all := lw_g (lw_at lw_m15 88 rfl) rfl
theorem q3525 : (Jvm.Cond.code ({ cls := "KeygroveModel", name := "isNode", desc := "(I)Z" } : Jvm.MethodName) prog_15_method_56_code (2 : Nat) (Option.some Jvm.ClassFile.FieldType.boolean)) ∈ lw_all := lw_g (lw_at lw_m15 89 rfl) rfl
theorem q3527 : (Jvm.Cond.instanceMethod ({ cls := "KeygroveModel", name := "late", desc := "(I)I" } : Jvm.MethodName)) ∈ lw_all := lw_g (lw_at lw_m15 91 rfl) rfl
theorem q3528 : (Jvm.Cond.selects "KeygroveModel" ({ cls := "KeygroveModel", name := "late", desc := "(I)I" } : Jvm.MethodName) ({ cls := "KeygroveModel", name := "late", desc := "(I)I" } : Jvm.MethodName)) ∈ lw_all := lw_g (lw_at lw_m15 92 rfl) rfl
theorem q3529 : (Jvm.Cond.code ({ cls := "KeygroveModel", name := "late", desc := "(I)I" } : Jvm.MethodName) prog_15_method_59_code (2 : Nat) (Option.some Jvm.ClassFile.FieldType.int)) ∈ lw_all := lw_g (lw_at lw_m15 93 rfl) rfl
theorem q3531 : (Jvm.Cond.instanceMethod ({ cls := "KeygroveModel", name := "cover", desc := "(I)I" } : Jvm.MethodName)) ∈ lw_all := lw_g (lw_at lw_m15 95 rfl) rfl
theorem q3532 : (Jvm.Cond.selects "KeygroveModel" ({ cls := "KeygroveModel", name := "cover", desc := "(I)I" } : Jvm.MethodName) ({ cls := "KeygroveModel", name := "cover", desc := "(I)I" } : Jvm.MethodName)) ∈ lw_all := lw_g (lw_at lw_m15 96 rfl) rfl
theorem q3533 : (Jvm.Cond.code ({ cls := "KeygroveModel", name := "cover", desc := "(I)I" } : Jvm.MethodName) prog_15_method_60_code (2 : Nat) (Option.some Jvm.ClassFile.FieldType.int)) ∈ lw_all := lw_g (lw_at lw_m15 97 rfl) rfl
theorem q3535 : (Jvm.Cond.instanceMethod ({ cls := "KeygroveModel", name := "coverAt", desc := "(II)I" } : Jvm.MethodName)) ∈ lw_all := lw_g (lw_at lw_m15 99 rfl) rfl
theorem q3536 : (Jvm.Cond.selects "KeygroveModel" ({ cls := "KeygroveModel", name := "coverAt", desc := "(II)I" } : Jvm.MethodName) ({ cls := "KeygroveModel", name := "coverAt", desc := "(II)I" } : Jvm.MethodName)) ∈ lw_all := lw_g (lw_at lw_m15 100 rfl) rfl
theorem q3537 : (Jvm.Cond.code ({ cls := "KeygroveModel", name := "coverAt", desc := "(II)I" } : Jvm.MethodName) prog_15_method_61_code (4 : Nat) (Option.some Jvm.ClassFile.FieldType.int)) ∈ lw_all := lw_g (lw_at lw_m15 101 rfl) rfl
theorem q3539 : (Jvm.Cond.instanceMethod ({ cls := "KeygroveModel", name := "personAt", desc := "(I)I" } : Jvm.MethodName)) ∈ lw_all := lw_g (lw_at lw_m15 103 rfl) rfl
theorem q3540 : (Jvm.Cond.selects "KeygroveModel" ({ cls := "KeygroveModel", name := "personAt", desc := "(I)I" } : Jvm.MethodName) ({ cls := "KeygroveModel", name := "personAt", desc := "(I)I" } : Jvm.MethodName)) ∈ lw_all := lw_g (lw_at lw_m15 104 rfl) rfl
theorem q3541 : (Jvm.Cond.code ({ cls := "KeygroveModel", name := "personAt", desc := "(I)I" } : Jvm.MethodName) prog_15_method_62_code (2 : Nat) (Option.some Jvm.ClassFile.FieldType.int)) ∈ lw_all := lw_g (lw_at lw_m15 105 rfl) rfl
theorem q3543 : (Jvm.Cond.instanceMethod ({ cls := "KeygroveModel", name := "holds", desc := "(II)Z" } : Jvm.MethodName)) ∈ lw_all := lw_g (lw_at lw_m15 107 rfl) rfl
theorem q3544 : (Jvm.Cond.selects "KeygroveModel" ({ cls := "KeygroveModel", name := "holds", desc := "(II)Z" } : Jvm.MethodName) ({ cls := "KeygroveModel", name := "holds", desc := "(II)Z" } : Jvm.MethodName)) ∈ lw_all := lw_g (lw_at lw_m15 108 rfl) rfl
theorem q3545 : (Jvm.Cond.code ({ cls := "KeygroveModel", name := "holds", desc := "(II)Z" } : Jvm.MethodName) prog_15_method_63_code (6 : Nat) (Option.some Jvm.ClassFile.FieldType.boolean)) ∈ lw_all := lw_g (lw_at lw_m15 109 rfl) rfl
theorem q3547 : (Jvm.Cond.instanceMethod ({ cls := "KeygroveModel", name := "key", desc := "(I)I" } : Jvm.MethodName)) ∈ lw_all := lw_g (lw_at lw_m15 111 rfl) rfl
theorem q3548 : (Jvm.Cond.selects "KeygroveModel" ({ cls := "KeygroveModel", name := "key", desc := "(I)I" } : Jvm.MethodName) ({ cls := "KeygroveModel", name := "key", desc := "(I)I" } : Jvm.MethodName)) ∈ lw_all := lw_g (lw_at lw_m15 112 rfl) rfl
theorem q3549 : (Jvm.Cond.code ({ cls := "KeygroveModel", name := "key", desc := "(I)I" } : Jvm.MethodName) prog_15_method_64_code (2 : Nat) (Option.some Jvm.ClassFile.FieldType.int)) ∈ lw_all := lw_g (lw_at lw_m15 113 rfl) rfl
theorem q3551 : (Jvm.Cond.instanceMethod ({ cls := "KeygroveModel", name := "boxes", desc := "()I" } : Jvm.MethodName)) ∈ lw_all := lw_g (lw_at lw_m15 115 rfl) rfl
theorem q3552 : (Jvm.Cond.selects "KeygroveModel" ({ cls := "KeygroveModel", name := "boxes", desc := "()I" } : Jvm.MethodName) ({ cls := "KeygroveModel", name := "boxes", desc := "()I" } : Jvm.MethodName)) ∈ lw_all := lw_g (lw_at lw_m15 116 rfl) rfl
theorem q3553 : (Jvm.Cond.code ({ cls := "KeygroveModel", name := "boxes", desc := "()I" } : Jvm.MethodName) prog_15_method_65_code (1 : Nat) (Option.some Jvm.ClassFile.FieldType.int)) ∈ lw_all := lw_g (lw_at lw_m15 117 rfl) rfl
theorem q3555 : (Jvm.Cond.instanceMethod ({ cls := "KeygroveModel", name := "held", desc := "(I)I" } : Jvm.MethodName)) ∈ lw_all := lw_g (lw_at lw_m15 119 rfl) rfl
theorem q3556 : (Jvm.Cond.selects "KeygroveModel" ({ cls := "KeygroveModel", name := "held", desc := "(I)I" } : Jvm.MethodName) ({ cls := "KeygroveModel", name := "held", desc := "(I)I" } : Jvm.MethodName)) ∈ lw_all := lw_g (lw_at lw_m15 120 rfl) rfl
theorem q3557 : (Jvm.Cond.code ({ cls := "KeygroveModel", name := "held", desc := "(I)I" } : Jvm.MethodName) prog_15_method_66_code (2 : Nat) (Option.some Jvm.ClassFile.FieldType.int)) ∈ lw_all := lw_g (lw_at lw_m15 121 rfl) rfl
theorem q3559 : (Jvm.Cond.instanceMethod ({ cls := "KeygroveModel", name := "send", desc := "(I)I" } : Jvm.MethodName)) ∈ lw_all := lw_g (lw_at lw_m15 123 rfl) rfl
theorem q3560 : (Jvm.Cond.selects "KeygroveModel" ({ cls := "KeygroveModel", name := "send", desc := "(I)I" } : Jvm.MethodName) ({ cls := "KeygroveModel", name := "send", desc := "(I)I" } : Jvm.MethodName)) ∈ lw_all := lw_g (lw_at lw_m15 124 rfl) rfl
theorem q3561 : (Jvm.Cond.code ({ cls := "KeygroveModel", name := "send", desc := "(I)I" } : Jvm.MethodName) prog_15_method_67_code (6 : Nat) (Option.some Jvm.ClassFile.FieldType.int)) ∈ lw_all := lw_g (lw_at lw_m15 125 rfl) rfl
theorem q3562 : (Jvm.Cond.classLink "KeygroveModel" (369 : Nat) "KeygroveModel$Message") ∈ lw_all := lw_g (lw_at lw_m15 126 rfl) rfl
theorem q3564 : (Jvm.Cond.methodLink "KeygroveModel" (374 : Nat) ({ cls := "KeygroveModel$Message", name := "<init>", desc := "(IIIII)V" } : Jvm.MethodName)) ∈ lw_all := lw_g (lw_at lw_m15 128 rfl) rfl
theorem q3569 : (Jvm.Cond.fieldLinkNest "KeygroveModel" (380 : Nat) "KeygroveModel$Message" "epoch" "I" "KeygroveModel") ∈ lw_tbl := lw_at lw_m15 133 rfl
theorem q3571 : (Jvm.Cond.fieldLinkNest "KeygroveModel" (382 : Nat) "KeygroveModel$Message" "leaf" "I" "KeygroveModel") ∈ lw_tbl := lw_at lw_m15 135 rfl
theorem q3573 : (Jvm.Cond.fieldLinkNest "KeygroveModel" (381 : Nat) "KeygroveModel$Message" "place" "I" "KeygroveModel") ∈ lw_tbl := lw_at lw_m15 137 rfl
theorem q3576 : (Jvm.Cond.fieldLinkNest "KeygroveModel" (389 : Nat) "KeygroveModel$Message" "text" "I" "KeygroveModel") ∈ lw_tbl := lw_at lw_m15 140 rfl
theorem q3589 : (Jvm.Cond.instanceMethod ({ cls := "KeygroveModel", name := "read", desc := "(II)I" } : Jvm.MethodName)) ∈ lw_all := lw_g (lw_at lw_m15 153 rfl) rfl
theorem q3590 : (Jvm.Cond.selects "KeygroveModel" ({ cls := "KeygroveModel", name := "read", desc := "(II)I" } : Jvm.MethodName) ({ cls := "KeygroveModel", name := "read", desc := "(II)I" } : Jvm.MethodName)) ∈ lw_all := lw_g (lw_at lw_m15 154 rfl) rfl
theorem q3591 : (Jvm.Cond.code ({ cls := "KeygroveModel", name := "read", desc := "(II)I" } : Jvm.MethodName) prog_15_method_69_code (8 : Nat) (Option.some Jvm.ClassFile.FieldType.int)) ∈ lw_all := lw_g (lw_at lw_m15 155 rfl) rfl
theorem q3592 : (Jvm.Cond.methodLink "KeygroveModel" (377 : Nat) ({ cls := "KeygroveModel", name := "isMessage", desc := "(I)Z" } : Jvm.MethodName)) ∈ lw_all := lw_g (lw_at lw_m15 156 rfl) rfl
theorem q3593 : (Jvm.Cond.privateMethod ({ cls := "KeygroveModel", name := "isMessage", desc := "(I)Z" } : Jvm.MethodName)) ∈ lw_tbl := lw_at lw_m15 157 rfl
theorem q3594 : (Jvm.Cond.instanceMethod ({ cls := "KeygroveModel", name := "isMessage", desc := "(I)Z" } : Jvm.MethodName)) ∈ lw_all := lw_g (lw_at lw_m15 158 rfl) rfl
theorem q3595 : (Jvm.Cond.code ({ cls := "KeygroveModel", name := "isMessage", desc := "(I)Z" } : Jvm.MethodName) prog_15_method_68_code (2 : Nat) (Option.some Jvm.ClassFile.FieldType.boolean)) ∈ lw_all := lw_g (lw_at lw_m15 159 rfl) rfl
theorem q3596 : (Jvm.Cond.methodLink "KeygroveModel" (386 : Nat) ({ cls := "java/util/ArrayList", name := "remove", desc := "(I)Ljava/lang/Object;" } : Jvm.MethodName)) ∈ lw_all := lw_g (lw_at lw_m15 160 rfl) rfl
theorem q3598 : (Jvm.Cond.instanceMethod ({ cls := "KeygroveModel", name := "messageOf", desc := "(IC)I" } : Jvm.MethodName)) ∈ lw_all := lw_g (lw_at lw_m15 162 rfl) rfl
theorem q3599 : (Jvm.Cond.selects "KeygroveModel" ({ cls := "KeygroveModel", name := "messageOf", desc := "(IC)I" } : Jvm.MethodName) ({ cls := "KeygroveModel", name := "messageOf", desc := "(IC)I" } : Jvm.MethodName)) ∈ lw_all := lw_g (lw_at lw_m15 163 rfl) rfl
theorem q3600 : (Jvm.Cond.code ({ cls := "KeygroveModel", name := "messageOf", desc := "(IC)I" } : Jvm.MethodName) prog_15_method_70_code (4 : Nat) (Option.some Jvm.ClassFile.FieldType.int)) ∈ lw_all := lw_g (lw_at lw_m15 164 rfl) rfl
theorem q3601 : (Jvm.Cond.stringRef "KeygroveModel" (392 : Nat) "elp") ∈ lw_tbl := lw_at lw_m15 165 rfl
theorem q3602 : (Jvm.Cond.methodLink "KeygroveModel" (394 : Nat) ({ cls := "java/lang/String", name := "indexOf", desc := "(I)I" } : Jvm.MethodName)) ∈ lw_all := lw_g (lw_at lw_m15 166 rfl) rfl
theorem q3604 : (Jvm.Cond.instanceMethod ({ cls := "KeygroveModel", name := "steal", desc := "(I)I" } : Jvm.MethodName)) ∈ lw_all := lw_g (lw_at lw_m15 168 rfl) rfl
theorem q3605 : (Jvm.Cond.selects "KeygroveModel" ({ cls := "KeygroveModel", name := "steal", desc := "(I)I" } : Jvm.MethodName) ({ cls := "KeygroveModel", name := "steal", desc := "(I)I" } : Jvm.MethodName)) ∈ lw_all := lw_g (lw_at lw_m15 169 rfl) rfl
theorem q3606 : (Jvm.Cond.code ({ cls := "KeygroveModel", name := "steal", desc := "(I)I" } : Jvm.MethodName) prog_15_method_71_code (6 : Nat) (Option.some Jvm.ClassFile.FieldType.int)) ∈ lw_all := lw_g (lw_at lw_m15 170 rfl) rfl
theorem q3607 : (Jvm.Cond.methodLink "KeygroveModel" (399 : Nat) ({ cls := "KeygroveModel", name := "all", desc := "(Ljava/util/ArrayList;)[Z" } : Jvm.MethodName)) ∈ lw_all := lw_g (lw_at lw_m15 171 rfl) rfl
theorem q3608 : (Jvm.Cond.privateMethod ({ cls := "KeygroveModel", name := "all", desc := "(Ljava/util/ArrayList;)[Z" } : Jvm.MethodName)) ∈ lw_tbl := lw_at lw_m15 172 rfl
theorem q3609 : (Jvm.Cond.instanceMethod ({ cls := "KeygroveModel", name := "all", desc := "(Ljava/util/ArrayList;)[Z" } : Jvm.MethodName)) ∈ lw_all := lw_g (lw_at lw_m15 173 rfl) rfl
theorem q3610 : (Jvm.Cond.code ({ cls := "KeygroveModel", name := "all", desc := "(Ljava/util/ArrayList;)[Z" } : Jvm.MethodName) prog_15_method_10_code (7 : Nat) (Option.some (Jvm.ClassFile.FieldType.array Jvm.ClassFile.FieldType.boolean))) ∈ lw_all := lw_g (lw_at lw_m15 174 rfl) rfl
theorem q3612 : (Jvm.Cond.instanceMethod ({ cls := "KeygroveModel", name := "finds", desc := "(I)Z" } : Jvm.MethodName)) ∈ lw_all := lw_g (lw_at lw_m15 176 rfl) rfl
theorem q3613 : (Jvm.Cond.selects "KeygroveModel" ({ cls := "KeygroveModel", name := "finds", desc := "(I)Z" } : Jvm.MethodName) ({ cls := "KeygroveModel", name := "finds", desc := "(I)Z" } : Jvm.MethodName)) ∈ lw_all := lw_g (lw_at lw_m15 177 rfl) rfl
theorem q3614 : (Jvm.Cond.code ({ cls := "KeygroveModel", name := "finds", desc := "(I)Z" } : Jvm.MethodName) prog_15_method_72_code (2 : Nat) (Option.some Jvm.ClassFile.FieldType.boolean)) ∈ lw_all := lw_g (lw_at lw_m15 178 rfl) rfl
theorem q3616 : (Jvm.Cond.instanceMethod ({ cls := "KeygroveModel", name := "findsText", desc := "(I)Z" } : Jvm.MethodName)) ∈ lw_all := lw_g (lw_at lw_m15 180 rfl) rfl
theorem q3617 : (Jvm.Cond.selects "KeygroveModel" ({ cls := "KeygroveModel", name := "findsText", desc := "(I)Z" } : Jvm.MethodName) ({ cls := "KeygroveModel", name := "findsText", desc := "(I)Z" } : Jvm.MethodName)) ∈ lw_all := lw_g (lw_at lw_m15 181 rfl) rfl
theorem q3618 : (Jvm.Cond.code ({ cls := "KeygroveModel", name := "findsText", desc := "(I)Z" } : Jvm.MethodName) prog_15_method_73_code (2 : Nat) (Option.some Jvm.ClassFile.FieldType.boolean)) ∈ lw_all := lw_g (lw_at lw_m15 182 rfl) rfl
theorem q3620 : (Jvm.Cond.instanceMethod ({ cls := "KeygroveModel", name := "found", desc := "()I" } : Jvm.MethodName)) ∈ lw_all := lw_g (lw_at lw_m15 184 rfl) rfl
theorem q3621 : (Jvm.Cond.selects "KeygroveModel" ({ cls := "KeygroveModel", name := "found", desc := "()I" } : Jvm.MethodName) ({ cls := "KeygroveModel", name := "found", desc := "()I" } : Jvm.MethodName)) ∈ lw_all := lw_g (lw_at lw_m15 185 rfl) rfl
theorem q3622 : (Jvm.Cond.code ({ cls := "KeygroveModel", name := "found", desc := "()I" } : Jvm.MethodName) prog_15_method_74_code (6 : Nat) (Option.some Jvm.ClassFile.FieldType.int)) ∈ lw_all := lw_g (lw_at lw_m15 186 rfl) rfl
theorem q3624 : (Jvm.Cond.instanceMethod ({ cls := "KeygroveModel", name := "canFind", desc := "(IIZ)Z" } : Jvm.MethodName)) ∈ lw_all := lw_g (lw_at lw_m15 188 rfl) rfl
theorem q3625 : (Jvm.Cond.selects "KeygroveModel" ({ cls := "KeygroveModel", name := "canFind", desc := "(IIZ)Z" } : Jvm.MethodName) ({ cls := "KeygroveModel", name := "canFind", desc := "(IIZ)Z" } : Jvm.MethodName)) ∈ lw_all := lw_g (lw_at lw_m15 189 rfl) rfl
theorem q3626 : (Jvm.Cond.code ({ cls := "KeygroveModel", name := "canFind", desc := "(IIZ)Z" } : Jvm.MethodName) prog_15_method_75_code (4 : Nat) (Option.some Jvm.ClassFile.FieldType.boolean)) ∈ lw_all := lw_g (lw_at lw_m15 190 rfl) rfl
theorem q3628 : (Jvm.Cond.instanceMethod ({ cls := "KeygroveModel", name := "canRead", desc := "(II)Z" } : Jvm.MethodName)) ∈ lw_all := lw_g (lw_at lw_m15 192 rfl) rfl
theorem q3629 : (Jvm.Cond.selects "KeygroveModel" ({ cls := "KeygroveModel", name := "canRead", desc := "(II)Z" } : Jvm.MethodName) ({ cls := "KeygroveModel", name := "canRead", desc := "(II)Z" } : Jvm.MethodName)) ∈ lw_all := lw_g (lw_at lw_m15 193 rfl) rfl
theorem q3630 : (Jvm.Cond.code ({ cls := "KeygroveModel", name := "canRead", desc := "(II)Z" } : Jvm.MethodName) prog_15_method_76_code (3 : Nat) (Option.some Jvm.ClassFile.FieldType.boolean)) ∈ lw_all := lw_g (lw_at lw_m15 194 rfl) rfl
theorem q3632 : (Jvm.Cond.instanceMethod ({ cls := "KeygroveModel", name := "blankShare", desc := "()F" } : Jvm.MethodName)) ∈ lw_all := lw_g (lw_at lw_m15 196 rfl) rfl
theorem q3633 : (Jvm.Cond.selects "KeygroveModel" ({ cls := "KeygroveModel", name := "blankShare", desc := "()F" } : Jvm.MethodName) ({ cls := "KeygroveModel", name := "blankShare", desc := "()F" } : Jvm.MethodName)) ∈ lw_all := lw_g (lw_at lw_m15 197 rfl) rfl
theorem q3634 : (Jvm.Cond.code ({ cls := "KeygroveModel", name := "blankShare", desc := "()F" } : Jvm.MethodName) prog_15_method_77_code (3 : Nat) (Option.some Jvm.ClassFile.FieldType.float)) ∈ lw_all := lw_g (lw_at lw_m15 198 rfl) rfl
theorem q3636 : (Jvm.Cond.instanceMethod ({ cls := "KeygroveModel", name := "meanBoxes", desc := "()D" } : Jvm.MethodName)) ∈ lw_all := lw_g (lw_at lw_m15 200 rfl) rfl
theorem q3637 : (Jvm.Cond.selects "KeygroveModel" ({ cls := "KeygroveModel", name := "meanBoxes", desc := "()D" } : Jvm.MethodName) ({ cls := "KeygroveModel", name := "meanBoxes", desc := "()D" } : Jvm.MethodName)) ∈ lw_all := lw_g (lw_at lw_m15 201 rfl) rfl
theorem q3638 : (Jvm.Cond.code ({ cls := "KeygroveModel", name := "meanBoxes", desc := "()D" } : Jvm.MethodName) prog_15_method_78_code (1 : Nat) (Option.some Jvm.ClassFile.FieldType.double)) ∈ lw_all := lw_g (lw_at lw_m15 202 rfl) rfl
theorem q3640 : (Jvm.Cond.instanceMethod ({ cls := "KeygroveModel", name := "checksum", desc := "()J" } : Jvm.MethodName)) ∈ lw_all := lw_g (lw_at lw_m15 204 rfl) rfl
theorem q3641 : (Jvm.Cond.selects "KeygroveModel" ({ cls := "KeygroveModel", name := "checksum", desc := "()J" } : Jvm.MethodName) ({ cls := "KeygroveModel", name := "checksum", desc := "()J" } : Jvm.MethodName)) ∈ lw_all := lw_g (lw_at lw_m15 205 rfl) rfl
theorem q3642 : (Jvm.Cond.code ({ cls := "KeygroveModel", name := "checksum", desc := "()J" } : Jvm.MethodName) prog_15_method_79_code (5 : Nat) (Option.some Jvm.ClassFile.FieldType.long)) ∈ lw_all := lw_g (lw_at lw_m15 206 rfl) rfl
theorem q3643 : (Jvm.Cond.constantLong "KeygroveModel" (403 : Nat) (31 : Int64)) ∈ lw_all := lw_g (lw_at lw_m15 207 rfl) rfl
theorem q3644 : (Jvm.Cond.constantLong "KeygroveModel" (405 : Nat) (217 : Int64)) ∈ lw_all := lw_g (lw_at lw_m15 208 rfl) rfl
theorem q3646 : (Jvm.Cond.instanceMethod ({ cls := "KeygroveModel", name := "isSound", desc := "()Z" } : Jvm.MethodName)) ∈ lw_all := lw_g (lw_at lw_m15 210 rfl) rfl
theorem q3647 : (Jvm.Cond.selects "KeygroveModel" ({ cls := "KeygroveModel", name := "isSound", desc := "()Z" } : Jvm.MethodName) ({ cls := "KeygroveModel", name := "isSound", desc := "()Z" } : Jvm.MethodName)) ∈ lw_all := lw_g (lw_at lw_m15 211 rfl) rfl
theorem q3648 : (Jvm.Cond.code ({ cls := "KeygroveModel", name := "isSound", desc := "()Z" } : Jvm.MethodName) prog_15_method_81_code (3 : Nat) (Option.some Jvm.ClassFile.FieldType.boolean)) ∈ lw_all := lw_g (lw_at lw_m15 212 rfl) rfl
theorem q3649 : (Jvm.Cond.methodLink "KeygroveModel" (407 : Nat) ({ cls := "KeygroveModel", name := "isRight", desc := "(I)Z" } : Jvm.MethodName)) ∈ lw_all := lw_g (lw_at lw_m15 213 rfl) rfl
theorem q3650 : (Jvm.Cond.privateMethod ({ cls := "KeygroveModel", name := "isRight", desc := "(I)Z" } : Jvm.MethodName)) ∈ lw_tbl := lw_at lw_m15 214 rfl
theorem q3651 : (Jvm.Cond.instanceMethod ({ cls := "KeygroveModel", name := "isRight", desc := "(I)Z" } : Jvm.MethodName)) ∈ lw_all := lw_g (lw_at lw_m15 215 rfl) rfl
theorem q3652 : (Jvm.Cond.code ({ cls := "KeygroveModel", name := "isRight", desc := "(I)Z" } : Jvm.MethodName) prog_15_method_80_code (9 : Nat) (Option.some Jvm.ClassFile.FieldType.boolean)) ∈ lw_all := lw_g (lw_at lw_m15 216 rfl) rfl
theorem q3683 : (Jvm.Cond.castable "KeygroveModel" "java/lang/Object") ∈ lw_tbl := lw_at lw_m16 7 rfl
theorem in_X3 : ∀ w ∈ wsX30, w ∈ lw_all := lw_in wsX30 [3069, 3071, 3073, 3075, 3077, 3079, 3081, 3083, 3085, 3087, 3089, 3091] (by decide +kernel) (by decide +kernel)
/-! Keygrove$Person -/
def RX4 : String := "Keygrove$Person"
def TX4 : u_T := fun k => match k with
  | 0 => ("Keygrove$Person", "number", "I", true)
  | 1 => ("Keygrove$Person", "ever", "Ljava/util/BitSet;", true)
  | 2 => ("Keygrove$Person", "packs", "Ljava/util/List;", true)
  | 3 => ("Keygrove$Person", "epoch", "I", false)
  | 4 => ("Keygrove$Person", "leaf", "I", false)
  | 5 => ("Keygrove$Person", "nodes", "Ljava/util/TreeMap;", true)
  | 6 => ("Keygrove$Person", "onward", "I", false)
  | 7 => ("Keygrove$Person", "key", "I", false)
  | 8 => ("Keygrove$Person", "chains", "Ljava/util/TreeMap;", true)
  | 9 => ("Keygrove$Person", "renewal", "I", false)
  | _ => ("Keygrove$Person", "this$0", "LKeygrove;", true)
def tyX4 : Nat → FieldType := fun k => match k with
  | 0 => .int
  | 1 => .object "java/util/BitSet"
  | 2 => .object "java/util/List"
  | 3 => .int
  | 4 => .int
  | 5 => .object "java/util/TreeMap"
  | 6 => .int
  | 7 => .int
  | 8 => .object "java/util/TreeMap"
  | 9 => .int
  | _ => .object "Keygrove"
abbrev wsX40 : List Cond := u_ws RX4 TX4 11
theorem nmX4 : ∀ a, a < 11 → ∀ b, b < 11 → a ≠ b → (TX4 a).2.1 ≠ (TX4 b).2.1 := by decide +kernel
theorem tyX4_ok : ∀ k, k < 11 → parseFieldDescriptor (TX4 k).2.2.1 = some (tyX4 k) := by decide +kernel
abbrev cX4_held : ByteArray := prog_8_method_3_code
def yX4_held : MethodName := ⟨RX4, "held", "()Ljava/util/BitSet;"⟩
def dkwX4_held_9 : List UInt8 := [167, 255, 225, 167, 255, 181, 42, 180, 0, 43, 2, 159, 0, 11, 43, 42, 180, 0, 43, 182, 0, 70, 43, 176]
abbrev dktX4_held_9 : List UInt8 := dkwX4_held_9 ++ []
def dkwX4_held_8 : List UInt8 := [153, 0, 27, 25, 4, 185, 0, 61, 1, 0, 192, 0, 84, 182, 0, 86, 54, 5, 43, 21, 5, 182, 0, 70]
abbrev dktX4_held_8 : List UInt8 := dkwX4_held_8 ++ dktX4_held_9
def dkwX4_held_7 : List UInt8 := [182, 0, 70, 45, 180, 0, 103, 182, 0, 77, 185, 0, 81, 1, 0, 58, 4, 25, 4, 185, 0, 55, 1, 0]
abbrev dktX4_held_7 : List UInt8 := dkwX4_held_7 ++ dktX4_held_8
def dkwX4_held_6 : List UInt8 := [185, 0, 55, 1, 0, 153, 0, 72, 44, 185, 0, 61, 1, 0, 192, 0, 99, 78, 43, 45, 180, 0, 101]
abbrev dktX4_held_6 : List UInt8 := dkwX4_held_6 ++ dktX4_held_7
def dkwX4_held_5 : List UInt8 := [180, 0, 96, 182, 0, 70, 42, 180, 0, 40, 182, 0, 77, 185, 0, 81, 1, 0, 77, 44]
abbrev dktX4_held_5 : List UInt8 := dkwX4_held_5 ++ dktX4_held_6
def dkwX4_held_4 : List UInt8 := [182, 0, 70, 167, 255, 229, 42, 182, 0, 90, 153, 0, 110, 43, 42, 180, 0, 93, 182, 0, 70, 43, 42]
abbrev dktX4_held_4 : List UInt8 := dkwX4_held_4 ++ dktX4_held_5
def dkwX4_held_3 : List UInt8 := [185, 0, 55, 1, 0, 153, 0, 24, 44, 185, 0, 61, 1, 0, 192, 0, 84, 182, 0, 86, 62, 43, 29]
abbrev dktX4_held_3 : List UInt8 := dkwX4_held_3 ++ dktX4_held_4
def dkwX4_held_2 : List UInt8 := [180, 0, 74, 182, 0, 70, 167, 255, 221, 42, 180, 0, 36, 182, 0, 77, 185, 0, 81, 1, 0, 77, 44]
abbrev dktX4_held_2 : List UInt8 := dkwX4_held_2 ++ dktX4_held_3
def dkwX4_held_1 : List UInt8 := [153, 0, 32, 44, 185, 0, 61, 1, 0, 192, 0, 65, 78, 43, 45, 180, 0, 67, 182, 0, 70, 43, 45]
abbrev dktX4_held_1 : List UInt8 := dkwX4_held_1 ++ dktX4_held_2
def dkwX4_held_0 : List UInt8 := [187, 0, 15, 89, 183, 0, 17, 76, 42, 180, 0, 25, 185, 0, 49, 1, 0, 77, 44, 185, 0, 55, 1, 0]
abbrev dktX4_held_0 : List UInt8 := dkwX4_held_0 ++ dktX4_held_1
theorem dksX4_held_0 : cX4_held.data.toList.drop 0 = dktX4_held_0 := by decide +kernel
theorem dksX4_held_1 : cX4_held.data.toList.drop 24 = dktX4_held_1 := dk_seg dksX4_held_0 24 rfl rfl
theorem dksX4_held_2 : cX4_held.data.toList.drop 47 = dktX4_held_2 := dk_seg dksX4_held_1 23 rfl rfl
theorem dksX4_held_3 : cX4_held.data.toList.drop 70 = dktX4_held_3 := dk_seg dksX4_held_2 23 rfl rfl
theorem dksX4_held_4 : cX4_held.data.toList.drop 93 = dktX4_held_4 := dk_seg dksX4_held_3 23 rfl rfl
theorem dksX4_held_5 : cX4_held.data.toList.drop 116 = dktX4_held_5 := dk_seg dksX4_held_4 23 rfl rfl
theorem dksX4_held_6 : cX4_held.data.toList.drop 136 = dktX4_held_6 := dk_seg dksX4_held_5 20 rfl rfl
theorem dksX4_held_7 : cX4_held.data.toList.drop 159 = dktX4_held_7 := dk_seg dksX4_held_6 23 rfl rfl
theorem dksX4_held_8 : cX4_held.data.toList.drop 183 = dktX4_held_8 := dk_seg dksX4_held_7 24 rfl rfl
theorem dksX4_held_9 : cX4_held.data.toList.drop 207 = dktX4_held_9 := dk_seg dksX4_held_8 24 rfl rfl
theorem dX4_held_0 : decode cX4_held 0 = .ok (.new 15, 3) := dk_187 0 15 (dk_at dksX4_held_0 0 rfl rfl)
theorem dX4_held_3 : decode cX4_held 3 = .ok (.dup, 1) := dk_89 (dk_at dksX4_held_0 3 rfl rfl)
theorem dX4_held_4 : decode cX4_held 4 = .ok (.invokespecial 17, 3) := dk_183 0 17 (dk_at dksX4_held_0 4 rfl rfl)
theorem dX4_held_7 : decode cX4_held 7 = .ok (.astore_n 1, 1) := dk_76 (dk_at dksX4_held_0 7 rfl rfl)
theorem dX4_held_8 : decode cX4_held 8 = .ok (.aload_n 0, 1) := dk_42 (dk_at dksX4_held_0 8 rfl rfl)
theorem dX4_held_9 : decode cX4_held 9 = .ok (.getfield 25, 3) := dk_180 0 25 (dk_at dksX4_held_0 9 rfl rfl)
theorem dX4_held_12 : decode cX4_held 12 = .ok (.invokeinterface 49 1, 5) := by decide +kernel
theorem dX4_held_17 : decode cX4_held 17 = .ok (.astore_n 2, 1) := dk_77 (dk_at dksX4_held_0 17 rfl rfl)
theorem dX4_held_18 : decode cX4_held 18 = .ok (.aload_n 2, 1) := dk_44 (dk_at dksX4_held_0 18 rfl rfl)
theorem dX4_held_19 : decode cX4_held 19 = .ok (.invokeinterface 55 1, 5) := by decide +kernel
theorem dX4_held_24 : decode cX4_held 24 = .ok (.ifCond .eq 32, 3) := dk_153 0 32 (dk_at dksX4_held_1 0 rfl rfl)
theorem dX4_held_27 : decode cX4_held 27 = .ok (.aload_n 2, 1) := dk_44 (dk_at dksX4_held_1 3 rfl rfl)
theorem dX4_held_28 : decode cX4_held 28 = .ok (.invokeinterface 61 1, 5) := by decide +kernel
theorem dX4_held_33 : decode cX4_held 33 = .ok (.checkcast 65, 3) := dk_192 0 65 (dk_at dksX4_held_1 9 rfl rfl)
theorem dX4_held_36 : decode cX4_held 36 = .ok (.astore_n 3, 1) := dk_78 (dk_at dksX4_held_1 12 rfl rfl)
theorem dX4_held_37 : decode cX4_held 37 = .ok (.aload_n 1, 1) := dk_43 (dk_at dksX4_held_1 13 rfl rfl)
theorem dX4_held_38 : decode cX4_held 38 = .ok (.aload_n 3, 1) := dk_45 (dk_at dksX4_held_1 14 rfl rfl)
theorem dX4_held_39 : decode cX4_held 39 = .ok (.getfield 67, 3) := dk_180 0 67 (dk_at dksX4_held_1 15 rfl rfl)
theorem dX4_held_42 : decode cX4_held 42 = .ok (.invokevirtual 70, 3) := dk_182 0 70 (dk_at dksX4_held_1 18 rfl rfl)
theorem dX4_held_45 : decode cX4_held 45 = .ok (.aload_n 1, 1) := dk_43 (dk_at dksX4_held_1 21 rfl rfl)
theorem dX4_held_46 : decode cX4_held 46 = .ok (.aload_n 3, 1) := dk_45 (dk_at dksX4_held_1 22 rfl rfl)
theorem dX4_held_47 : decode cX4_held 47 = .ok (.getfield 74, 3) := dk_180 0 74 (dk_at dksX4_held_2 0 rfl rfl)
theorem dX4_held_50 : decode cX4_held 50 = .ok (.invokevirtual 70, 3) := dk_182 0 70 (dk_at dksX4_held_2 3 rfl rfl)
theorem dX4_held_53 : decode cX4_held 53 = .ok (.goto (-35), 3) := dk_167 255 221 (dk_at dksX4_held_2 6 rfl rfl)
theorem dX4_held_56 : decode cX4_held 56 = .ok (.aload_n 0, 1) := dk_42 (dk_at dksX4_held_2 9 rfl rfl)
theorem dX4_held_57 : decode cX4_held 57 = .ok (.getfield 36, 3) := dk_180 0 36 (dk_at dksX4_held_2 10 rfl rfl)
theorem dX4_held_60 : decode cX4_held 60 = .ok (.invokevirtual 77, 3) := dk_182 0 77 (dk_at dksX4_held_2 13 rfl rfl)
theorem dX4_held_63 : decode cX4_held 63 = .ok (.invokeinterface 81 1, 5) := by decide +kernel
theorem dX4_held_68 : decode cX4_held 68 = .ok (.astore_n 2, 1) := dk_77 (dk_at dksX4_held_2 21 rfl rfl)
theorem dX4_held_69 : decode cX4_held 69 = .ok (.aload_n 2, 1) := dk_44 (dk_at dksX4_held_2 22 rfl rfl)
theorem dX4_held_70 : decode cX4_held 70 = .ok (.invokeinterface 55 1, 5) := by decide +kernel
theorem dX4_held_75 : decode cX4_held 75 = .ok (.ifCond .eq 24, 3) := dk_153 0 24 (dk_at dksX4_held_3 5 rfl rfl)
theorem dX4_held_78 : decode cX4_held 78 = .ok (.aload_n 2, 1) := dk_44 (dk_at dksX4_held_3 8 rfl rfl)
theorem dX4_held_79 : decode cX4_held 79 = .ok (.invokeinterface 61 1, 5) := by decide +kernel
theorem dX4_held_84 : decode cX4_held 84 = .ok (.checkcast 84, 3) := dk_192 0 84 (dk_at dksX4_held_3 14 rfl rfl)
theorem dX4_held_87 : decode cX4_held 87 = .ok (.invokevirtual 86, 3) := dk_182 0 86 (dk_at dksX4_held_3 17 rfl rfl)
theorem dX4_held_90 : decode cX4_held 90 = .ok (.istore_n 3, 1) := dk_62 (dk_at dksX4_held_3 20 rfl rfl)
theorem dX4_held_91 : decode cX4_held 91 = .ok (.aload_n 1, 1) := dk_43 (dk_at dksX4_held_3 21 rfl rfl)
theorem dX4_held_92 : decode cX4_held 92 = .ok (.iload_n 3, 1) := dk_29 (dk_at dksX4_held_3 22 rfl rfl)
theorem dX4_held_93 : decode cX4_held 93 = .ok (.invokevirtual 70, 3) := dk_182 0 70 (dk_at dksX4_held_4 0 rfl rfl)
theorem dX4_held_96 : decode cX4_held 96 = .ok (.goto (-27), 3) := dk_167 255 229 (dk_at dksX4_held_4 3 rfl rfl)
theorem dX4_held_99 : decode cX4_held 99 = .ok (.aload_n 0, 1) := dk_42 (dk_at dksX4_held_4 6 rfl rfl)
theorem dX4_held_100 : decode cX4_held 100 = .ok (.invokevirtual 90, 3) := dk_182 0 90 (dk_at dksX4_held_4 7 rfl rfl)
theorem dX4_held_103 : decode cX4_held 103 = .ok (.ifCond .eq 110, 3) := dk_153 0 110 (dk_at dksX4_held_4 10 rfl rfl)
theorem dX4_held_106 : decode cX4_held 106 = .ok (.aload_n 1, 1) := dk_43 (dk_at dksX4_held_4 13 rfl rfl)
theorem dX4_held_107 : decode cX4_held 107 = .ok (.aload_n 0, 1) := dk_42 (dk_at dksX4_held_4 14 rfl rfl)
theorem dX4_held_108 : decode cX4_held 108 = .ok (.getfield 93, 3) := dk_180 0 93 (dk_at dksX4_held_4 15 rfl rfl)
theorem dX4_held_111 : decode cX4_held 111 = .ok (.invokevirtual 70, 3) := dk_182 0 70 (dk_at dksX4_held_4 18 rfl rfl)
theorem dX4_held_114 : decode cX4_held 114 = .ok (.aload_n 1, 1) := dk_43 (dk_at dksX4_held_4 21 rfl rfl)
theorem dX4_held_115 : decode cX4_held 115 = .ok (.aload_n 0, 1) := dk_42 (dk_at dksX4_held_4 22 rfl rfl)
theorem dX4_held_116 : decode cX4_held 116 = .ok (.getfield 96, 3) := dk_180 0 96 (dk_at dksX4_held_5 0 rfl rfl)
theorem dX4_held_119 : decode cX4_held 119 = .ok (.invokevirtual 70, 3) := dk_182 0 70 (dk_at dksX4_held_5 3 rfl rfl)
theorem dX4_held_122 : decode cX4_held 122 = .ok (.aload_n 0, 1) := dk_42 (dk_at dksX4_held_5 6 rfl rfl)
theorem dX4_held_123 : decode cX4_held 123 = .ok (.getfield 40, 3) := dk_180 0 40 (dk_at dksX4_held_5 7 rfl rfl)
theorem dX4_held_126 : decode cX4_held 126 = .ok (.invokevirtual 77, 3) := dk_182 0 77 (dk_at dksX4_held_5 10 rfl rfl)
theorem dX4_held_129 : decode cX4_held 129 = .ok (.invokeinterface 81 1, 5) := by decide +kernel
theorem dX4_held_134 : decode cX4_held 134 = .ok (.astore_n 2, 1) := dk_77 (dk_at dksX4_held_5 18 rfl rfl)
theorem dX4_held_135 : decode cX4_held 135 = .ok (.aload_n 2, 1) := dk_44 (dk_at dksX4_held_5 19 rfl rfl)
theorem dX4_held_136 : decode cX4_held 136 = .ok (.invokeinterface 55 1, 5) := by decide +kernel
theorem dX4_held_141 : decode cX4_held 141 = .ok (.ifCond .eq 72, 3) := dk_153 0 72 (dk_at dksX4_held_6 5 rfl rfl)
theorem dX4_held_144 : decode cX4_held 144 = .ok (.aload_n 2, 1) := dk_44 (dk_at dksX4_held_6 8 rfl rfl)
theorem dX4_held_145 : decode cX4_held 145 = .ok (.invokeinterface 61 1, 5) := by decide +kernel
theorem dX4_held_150 : decode cX4_held 150 = .ok (.checkcast 99, 3) := dk_192 0 99 (dk_at dksX4_held_6 14 rfl rfl)
theorem dX4_held_153 : decode cX4_held 153 = .ok (.astore_n 3, 1) := dk_78 (dk_at dksX4_held_6 17 rfl rfl)
theorem dX4_held_154 : decode cX4_held 154 = .ok (.aload_n 1, 1) := dk_43 (dk_at dksX4_held_6 18 rfl rfl)
theorem dX4_held_155 : decode cX4_held 155 = .ok (.aload_n 3, 1) := dk_45 (dk_at dksX4_held_6 19 rfl rfl)
theorem dX4_held_156 : decode cX4_held 156 = .ok (.getfield 101, 3) := dk_180 0 101 (dk_at dksX4_held_6 20 rfl rfl)
theorem dX4_held_159 : decode cX4_held 159 = .ok (.invokevirtual 70, 3) := dk_182 0 70 (dk_at dksX4_held_7 0 rfl rfl)
theorem dX4_held_162 : decode cX4_held 162 = .ok (.aload_n 3, 1) := dk_45 (dk_at dksX4_held_7 3 rfl rfl)
theorem dX4_held_163 : decode cX4_held 163 = .ok (.getfield 103, 3) := dk_180 0 103 (dk_at dksX4_held_7 4 rfl rfl)
theorem dX4_held_166 : decode cX4_held 166 = .ok (.invokevirtual 77, 3) := dk_182 0 77 (dk_at dksX4_held_7 7 rfl rfl)
theorem dX4_held_169 : decode cX4_held 169 = .ok (.invokeinterface 81 1, 5) := by decide +kernel
theorem dX4_held_174 : decode cX4_held 174 = .ok (.astore 4, 2) := dk_58 4 (dk_at dksX4_held_7 15 rfl rfl)
theorem dX4_held_176 : decode cX4_held 176 = .ok (.aload 4, 2) := dk_25 4 (dk_at dksX4_held_7 17 rfl rfl)
theorem dX4_held_178 : decode cX4_held 178 = .ok (.invokeinterface 55 1, 5) := by decide +kernel
theorem dX4_held_183 : decode cX4_held 183 = .ok (.ifCond .eq 27, 3) := dk_153 0 27 (dk_at dksX4_held_8 0 rfl rfl)
theorem dX4_held_186 : decode cX4_held 186 = .ok (.aload 4, 2) := dk_25 4 (dk_at dksX4_held_8 3 rfl rfl)
theorem dX4_held_188 : decode cX4_held 188 = .ok (.invokeinterface 61 1, 5) := by decide +kernel
theorem dX4_held_193 : decode cX4_held 193 = .ok (.checkcast 84, 3) := dk_192 0 84 (dk_at dksX4_held_8 10 rfl rfl)
theorem dX4_held_196 : decode cX4_held 196 = .ok (.invokevirtual 86, 3) := dk_182 0 86 (dk_at dksX4_held_8 13 rfl rfl)
theorem dX4_held_199 : decode cX4_held 199 = .ok (.istore 5, 2) := dk_54 5 (dk_at dksX4_held_8 16 rfl rfl)
theorem dX4_held_201 : decode cX4_held 201 = .ok (.aload_n 1, 1) := dk_43 (dk_at dksX4_held_8 18 rfl rfl)
theorem dX4_held_202 : decode cX4_held 202 = .ok (.iload 5, 2) := dk_21 5 (dk_at dksX4_held_8 19 rfl rfl)
theorem dX4_held_204 : decode cX4_held 204 = .ok (.invokevirtual 70, 3) := dk_182 0 70 (dk_at dksX4_held_8 21 rfl rfl)
theorem dX4_held_207 : decode cX4_held 207 = .ok (.goto (-31), 3) := dk_167 255 225 (dk_at dksX4_held_9 0 rfl rfl)
theorem dX4_held_210 : decode cX4_held 210 = .ok (.goto (-75), 3) := dk_167 255 181 (dk_at dksX4_held_9 3 rfl rfl)
theorem dX4_held_213 : decode cX4_held 213 = .ok (.aload_n 0, 1) := dk_42 (dk_at dksX4_held_9 6 rfl rfl)
theorem dX4_held_214 : decode cX4_held 214 = .ok (.getfield 43, 3) := dk_180 0 43 (dk_at dksX4_held_9 7 rfl rfl)
theorem dX4_held_217 : decode cX4_held 217 = .ok (.iconst (-1), 1) := dk_2 (dk_at dksX4_held_9 10 rfl rfl)
theorem dX4_held_218 : decode cX4_held 218 = .ok (.if_icmp .eq 11, 3) := dk_159 0 11 (dk_at dksX4_held_9 11 rfl rfl)
theorem dX4_held_221 : decode cX4_held 221 = .ok (.aload_n 1, 1) := dk_43 (dk_at dksX4_held_9 14 rfl rfl)
theorem dX4_held_222 : decode cX4_held 222 = .ok (.aload_n 0, 1) := dk_42 (dk_at dksX4_held_9 15 rfl rfl)
theorem dX4_held_223 : decode cX4_held 223 = .ok (.getfield 43, 3) := dk_180 0 43 (dk_at dksX4_held_9 16 rfl rfl)
theorem dX4_held_226 : decode cX4_held 226 = .ok (.invokevirtual 70, 3) := dk_182 0 70 (dk_at dksX4_held_9 19 rfl rfl)
theorem dX4_held_229 : decode cX4_held 229 = .ok (.aload_n 1, 1) := dk_43 (dk_at dksX4_held_9 22 rfl rfl)
theorem dX4_held_230 : decode cX4_held 230 = .ok (.areturn, 1) := dk_176 (dk_at dksX4_held_9 23 rfl rfl)
abbrev cX4_isIn : ByteArray := prog_8_method_2_code
def yX4_isIn : MethodName := ⟨RX4, "isIn", "()Z"⟩
def dkwX4_isIn_0 : List UInt8 := [42, 180, 0, 29, 2, 159, 0, 7, 4, 167, 0, 4, 3, 172]
abbrev dktX4_isIn_0 : List UInt8 := dkwX4_isIn_0 ++ []
theorem dksX4_isIn_0 : cX4_isIn.data.toList.drop 0 = dktX4_isIn_0 := by decide +kernel
theorem dX4_isIn_0 : decode cX4_isIn 0 = .ok (.aload_n 0, 1) := dk_42 (dk_at dksX4_isIn_0 0 rfl rfl)
theorem dX4_isIn_1 : decode cX4_isIn 1 = .ok (.getfield 29, 3) := dk_180 0 29 (dk_at dksX4_isIn_0 1 rfl rfl)
theorem dX4_isIn_4 : decode cX4_isIn 4 = .ok (.iconst (-1), 1) := dk_2 (dk_at dksX4_isIn_0 4 rfl rfl)
theorem dX4_isIn_5 : decode cX4_isIn 5 = .ok (.if_icmp .eq 7, 3) := dk_159 0 7 (dk_at dksX4_isIn_0 5 rfl rfl)
theorem dX4_isIn_8 : decode cX4_isIn 8 = .ok (.iconst 1, 1) := dk_4 (dk_at dksX4_isIn_0 8 rfl rfl)
theorem dX4_isIn_9 : decode cX4_isIn 9 = .ok (.goto 4, 3) := dk_167 0 4 (dk_at dksX4_isIn_0 9 rfl rfl)
theorem dX4_isIn_12 : decode cX4_isIn 12 = .ok (.iconst 0, 1) := dk_3 (dk_at dksX4_isIn_0 12 rfl rfl)
theorem dX4_isIn_13 : decode cX4_isIn 13 = .ok (.ireturn, 1) := dk_172 (dk_at dksX4_isIn_0 13 rfl rfl)
abbrev cX4_init : ByteArray := prog_8_method_1_code
def yX4_init : MethodName := ⟨RX4, "<init>", "(LKeygrove;I)V"⟩
def dkwX4_init_2 : List UInt8 := [187, 0, 33, 89, 183, 0, 35, 181, 0, 40, 42, 2, 181, 0, 43, 42, 28, 181, 0, 46, 177]
abbrev dktX4_init_2 : List UInt8 := dkwX4_init_2 ++ []
def dkwX4_init_1 : List UInt8 := [89, 183, 0, 24, 181, 0, 25, 42, 2, 181, 0, 29, 42, 187, 0, 33, 89, 183, 0, 35, 181, 0, 36, 42]
abbrev dktX4_init_1 : List UInt8 := dkwX4_init_1 ++ dktX4_init_2
def dkwX4_init_0 : List UInt8 := [42, 43, 181, 0, 3, 42, 183, 0, 9, 42, 187, 0, 15, 89, 183, 0, 17, 181, 0, 18, 42, 187, 0, 22]
abbrev dktX4_init_0 : List UInt8 := dkwX4_init_0 ++ dktX4_init_1
theorem dksX4_init_0 : cX4_init.data.toList.drop 0 = dktX4_init_0 := by decide +kernel
theorem dksX4_init_1 : cX4_init.data.toList.drop 24 = dktX4_init_1 := dk_seg dksX4_init_0 24 rfl rfl
theorem dksX4_init_2 : cX4_init.data.toList.drop 48 = dktX4_init_2 := dk_seg dksX4_init_1 24 rfl rfl
theorem dX4_init_0 : decode cX4_init 0 = .ok (.aload_n 0, 1) := dk_42 (dk_at dksX4_init_0 0 rfl rfl)
theorem dX4_init_1 : decode cX4_init 1 = .ok (.aload_n 1, 1) := dk_43 (dk_at dksX4_init_0 1 rfl rfl)
theorem dX4_init_2 : decode cX4_init 2 = .ok (.putfield 3, 3) := dk_181 0 3 (dk_at dksX4_init_0 2 rfl rfl)
theorem dX4_init_5 : decode cX4_init 5 = .ok (.aload_n 0, 1) := dk_42 (dk_at dksX4_init_0 5 rfl rfl)
theorem dX4_init_6 : decode cX4_init 6 = .ok (.invokespecial 9, 3) := dk_183 0 9 (dk_at dksX4_init_0 6 rfl rfl)
theorem dX4_init_9 : decode cX4_init 9 = .ok (.aload_n 0, 1) := dk_42 (dk_at dksX4_init_0 9 rfl rfl)
theorem dX4_init_10 : decode cX4_init 10 = .ok (.new 15, 3) := dk_187 0 15 (dk_at dksX4_init_0 10 rfl rfl)
theorem dX4_init_13 : decode cX4_init 13 = .ok (.dup, 1) := dk_89 (dk_at dksX4_init_0 13 rfl rfl)
theorem dX4_init_14 : decode cX4_init 14 = .ok (.invokespecial 17, 3) := dk_183 0 17 (dk_at dksX4_init_0 14 rfl rfl)
theorem dX4_init_17 : decode cX4_init 17 = .ok (.putfield 18, 3) := dk_181 0 18 (dk_at dksX4_init_0 17 rfl rfl)
theorem dX4_init_20 : decode cX4_init 20 = .ok (.aload_n 0, 1) := dk_42 (dk_at dksX4_init_0 20 rfl rfl)
theorem dX4_init_21 : decode cX4_init 21 = .ok (.new 22, 3) := dk_187 0 22 (dk_at dksX4_init_0 21 rfl rfl)
theorem dX4_init_24 : decode cX4_init 24 = .ok (.dup, 1) := dk_89 (dk_at dksX4_init_1 0 rfl rfl)
theorem dX4_init_25 : decode cX4_init 25 = .ok (.invokespecial 24, 3) := dk_183 0 24 (dk_at dksX4_init_1 1 rfl rfl)
theorem dX4_init_28 : decode cX4_init 28 = .ok (.putfield 25, 3) := dk_181 0 25 (dk_at dksX4_init_1 4 rfl rfl)
theorem dX4_init_31 : decode cX4_init 31 = .ok (.aload_n 0, 1) := dk_42 (dk_at dksX4_init_1 7 rfl rfl)
theorem dX4_init_32 : decode cX4_init 32 = .ok (.iconst (-1), 1) := dk_2 (dk_at dksX4_init_1 8 rfl rfl)
theorem dX4_init_33 : decode cX4_init 33 = .ok (.putfield 29, 3) := dk_181 0 29 (dk_at dksX4_init_1 9 rfl rfl)
theorem dX4_init_36 : decode cX4_init 36 = .ok (.aload_n 0, 1) := dk_42 (dk_at dksX4_init_1 12 rfl rfl)
theorem dX4_init_37 : decode cX4_init 37 = .ok (.new 33, 3) := dk_187 0 33 (dk_at dksX4_init_1 13 rfl rfl)
theorem dX4_init_40 : decode cX4_init 40 = .ok (.dup, 1) := dk_89 (dk_at dksX4_init_1 16 rfl rfl)
theorem dX4_init_41 : decode cX4_init 41 = .ok (.invokespecial 35, 3) := dk_183 0 35 (dk_at dksX4_init_1 17 rfl rfl)
theorem dX4_init_44 : decode cX4_init 44 = .ok (.putfield 36, 3) := dk_181 0 36 (dk_at dksX4_init_1 20 rfl rfl)
theorem dX4_init_47 : decode cX4_init 47 = .ok (.aload_n 0, 1) := dk_42 (dk_at dksX4_init_1 23 rfl rfl)
theorem dX4_init_48 : decode cX4_init 48 = .ok (.new 33, 3) := dk_187 0 33 (dk_at dksX4_init_2 0 rfl rfl)
theorem dX4_init_51 : decode cX4_init 51 = .ok (.dup, 1) := dk_89 (dk_at dksX4_init_2 3 rfl rfl)
theorem dX4_init_52 : decode cX4_init 52 = .ok (.invokespecial 35, 3) := dk_183 0 35 (dk_at dksX4_init_2 4 rfl rfl)
theorem dX4_init_55 : decode cX4_init 55 = .ok (.putfield 40, 3) := dk_181 0 40 (dk_at dksX4_init_2 7 rfl rfl)
theorem dX4_init_58 : decode cX4_init 58 = .ok (.aload_n 0, 1) := dk_42 (dk_at dksX4_init_2 10 rfl rfl)
theorem dX4_init_59 : decode cX4_init 59 = .ok (.iconst (-1), 1) := dk_2 (dk_at dksX4_init_2 11 rfl rfl)
theorem dX4_init_60 : decode cX4_init 60 = .ok (.putfield 43, 3) := dk_181 0 43 (dk_at dksX4_init_2 12 rfl rfl)
theorem dX4_init_63 : decode cX4_init 63 = .ok (.aload_n 0, 1) := dk_42 (dk_at dksX4_init_2 15 rfl rfl)
theorem dX4_init_64 : decode cX4_init 64 = .ok (.iload_n 2, 1) := dk_28 (dk_at dksX4_init_2 16 rfl rfl)
theorem dX4_init_65 : decode cX4_init 65 = .ok (.putfield 46, 3) := dk_181 0 46 (dk_at dksX4_init_2 17 rfl rfl)
theorem dX4_init_68 : decode cX4_init 68 = .ok (.return_, 1) := dk_177 (dk_at dksX4_init_2 20 rfl rfl)
abbrev cX4_notes : ByteArray := prog_8_method_4_code
def yX4_notes : MethodName := ⟨RX4, "notes", "()V"⟩
def dkwX4_notes_0 : List UInt8 := [42, 180, 0, 18, 42, 182, 0, 106, 182, 0, 110, 177]
abbrev dktX4_notes_0 : List UInt8 := dkwX4_notes_0 ++ []
theorem dksX4_notes_0 : cX4_notes.data.toList.drop 0 = dktX4_notes_0 := by decide +kernel
theorem dX4_notes_0 : decode cX4_notes 0 = .ok (.aload_n 0, 1) := dk_42 (dk_at dksX4_notes_0 0 rfl rfl)
theorem dX4_notes_1 : decode cX4_notes 1 = .ok (.getfield 18, 3) := dk_180 0 18 (dk_at dksX4_notes_0 1 rfl rfl)
theorem dX4_notes_4 : decode cX4_notes 4 = .ok (.aload_n 0, 1) := dk_42 (dk_at dksX4_notes_0 4 rfl rfl)
theorem dX4_notes_5 : decode cX4_notes 5 = .ok (.invokevirtual 106, 3) := dk_182 0 106 (dk_at dksX4_notes_0 5 rfl rfl)
theorem dX4_notes_8 : decode cX4_notes 8 = .ok (.invokevirtual 110, 3) := dk_182 0 110 (dk_at dksX4_notes_0 8 rfl rfl)
theorem dX4_notes_11 : decode cX4_notes 11 = .ok (.return_, 1) := dk_177 (dk_at dksX4_notes_0 11 rfl rfl)
abbrev cX4_enters : ByteArray := prog_8_method_5_code
def yX4_enters : MethodName := ⟨RX4, "enters", "(II)V"⟩
def dkwX4_enters_6 : List UInt8 := [132, 4, 1, 167, 255, 197, 42, 45, 182, 0, 160, 42, 182, 0, 164, 177]
abbrev dktX4_enters_6 : List UInt8 := dkwX4_enters_6 ++ []
def dkwX4_enters_5 : List UInt8 := [180, 0, 3, 180, 0, 130, 28, 16, 100, 21, 4, 96, 182, 0, 134, 183, 0, 154, 182, 0, 156, 87]
abbrev dktX4_enters_5 : List UInt8 := dkwX4_enters_5 ++ dktX4_enters_6
def dkwX4_enters_4 : List UInt8 := [180, 0, 146, 21, 4, 46, 2, 159, 0, 39, 42, 180, 0, 40, 21, 4, 184, 0, 150, 187, 0, 99, 89, 42]
abbrev dktX4_enters_4 : List UInt8 := dkwX4_enters_4 ++ dktX4_enters_5
def dkwX4_enters_3 : List UInt8 := [181, 0, 96, 42, 180, 0, 40, 182, 0, 140, 3, 54, 4, 21, 4, 45, 180, 0, 143, 162, 0, 56, 45]
abbrev dktX4_enters_3 : List UInt8 := dkwX4_enters_3 ++ dktX4_enters_4
def dkwX4_enters_2 : List UInt8 := [28, 8, 182, 0, 134, 181, 0, 93, 42, 42, 180, 0, 3, 180, 0, 130, 28, 16, 6, 182, 0, 134]
abbrev dktX4_enters_2 : List UInt8 := dkwX4_enters_2 ++ dktX4_enters_3
def dkwX4_enters_1 : List UInt8 := [192, 0, 121, 78, 42, 45, 42, 180, 0, 46, 182, 0, 123, 181, 0, 127, 42, 42, 180, 0, 3, 180, 0, 130]
abbrev dktX4_enters_1 : List UInt8 := dkwX4_enters_1 ++ dktX4_enters_2
def dkwX4_enters_0 : List UInt8 := [42, 27, 181, 0, 29, 42, 2, 181, 0, 43, 42, 180, 0, 3, 180, 0, 114, 27, 185, 0, 117, 2, 0]
abbrev dktX4_enters_0 : List UInt8 := dkwX4_enters_0 ++ dktX4_enters_1
theorem dksX4_enters_0 : cX4_enters.data.toList.drop 0 = dktX4_enters_0 := by decide +kernel
theorem dksX4_enters_1 : cX4_enters.data.toList.drop 23 = dktX4_enters_1 := dk_seg dksX4_enters_0 23 rfl rfl
theorem dksX4_enters_2 : cX4_enters.data.toList.drop 47 = dktX4_enters_2 := dk_seg dksX4_enters_1 24 rfl rfl
theorem dksX4_enters_3 : cX4_enters.data.toList.drop 69 = dktX4_enters_3 := dk_seg dksX4_enters_2 22 rfl rfl
theorem dksX4_enters_4 : cX4_enters.data.toList.drop 92 = dktX4_enters_4 := dk_seg dksX4_enters_3 23 rfl rfl
theorem dksX4_enters_5 : cX4_enters.data.toList.drop 116 = dktX4_enters_5 := dk_seg dksX4_enters_4 24 rfl rfl
theorem dksX4_enters_6 : cX4_enters.data.toList.drop 138 = dktX4_enters_6 := dk_seg dksX4_enters_5 22 rfl rfl
theorem dX4_enters_0 : decode cX4_enters 0 = .ok (.aload_n 0, 1) := dk_42 (dk_at dksX4_enters_0 0 rfl rfl)
theorem dX4_enters_1 : decode cX4_enters 1 = .ok (.iload_n 1, 1) := dk_27 (dk_at dksX4_enters_0 1 rfl rfl)
theorem dX4_enters_2 : decode cX4_enters 2 = .ok (.putfield 29, 3) := dk_181 0 29 (dk_at dksX4_enters_0 2 rfl rfl)
theorem dX4_enters_5 : decode cX4_enters 5 = .ok (.aload_n 0, 1) := dk_42 (dk_at dksX4_enters_0 5 rfl rfl)
theorem dX4_enters_6 : decode cX4_enters 6 = .ok (.iconst (-1), 1) := dk_2 (dk_at dksX4_enters_0 6 rfl rfl)
theorem dX4_enters_7 : decode cX4_enters 7 = .ok (.putfield 43, 3) := dk_181 0 43 (dk_at dksX4_enters_0 7 rfl rfl)
theorem dX4_enters_10 : decode cX4_enters 10 = .ok (.aload_n 0, 1) := dk_42 (dk_at dksX4_enters_0 10 rfl rfl)
theorem dX4_enters_11 : decode cX4_enters 11 = .ok (.getfield 3, 3) := dk_180 0 3 (dk_at dksX4_enters_0 11 rfl rfl)
theorem dX4_enters_14 : decode cX4_enters 14 = .ok (.getfield 114, 3) := dk_180 0 114 (dk_at dksX4_enters_0 14 rfl rfl)
theorem dX4_enters_17 : decode cX4_enters 17 = .ok (.iload_n 1, 1) := dk_27 (dk_at dksX4_enters_0 17 rfl rfl)
theorem dX4_enters_18 : decode cX4_enters 18 = .ok (.invokeinterface 117 2, 5) := by decide +kernel
theorem dX4_enters_23 : decode cX4_enters 23 = .ok (.checkcast 121, 3) := dk_192 0 121 (dk_at dksX4_enters_1 0 rfl rfl)
theorem dX4_enters_26 : decode cX4_enters 26 = .ok (.astore_n 3, 1) := dk_78 (dk_at dksX4_enters_1 3 rfl rfl)
theorem dX4_enters_27 : decode cX4_enters 27 = .ok (.aload_n 0, 1) := dk_42 (dk_at dksX4_enters_1 4 rfl rfl)
theorem dX4_enters_28 : decode cX4_enters 28 = .ok (.aload_n 3, 1) := dk_45 (dk_at dksX4_enters_1 5 rfl rfl)
theorem dX4_enters_29 : decode cX4_enters 29 = .ok (.aload_n 0, 1) := dk_42 (dk_at dksX4_enters_1 6 rfl rfl)
theorem dX4_enters_30 : decode cX4_enters 30 = .ok (.getfield 46, 3) := dk_180 0 46 (dk_at dksX4_enters_1 7 rfl rfl)
theorem dX4_enters_33 : decode cX4_enters 33 = .ok (.invokevirtual 123, 3) := dk_182 0 123 (dk_at dksX4_enters_1 10 rfl rfl)
theorem dX4_enters_36 : decode cX4_enters 36 = .ok (.putfield 127, 3) := dk_181 0 127 (dk_at dksX4_enters_1 13 rfl rfl)
theorem dX4_enters_39 : decode cX4_enters 39 = .ok (.aload_n 0, 1) := dk_42 (dk_at dksX4_enters_1 16 rfl rfl)
theorem dX4_enters_40 : decode cX4_enters 40 = .ok (.aload_n 0, 1) := dk_42 (dk_at dksX4_enters_1 17 rfl rfl)
theorem dX4_enters_41 : decode cX4_enters 41 = .ok (.getfield 3, 3) := dk_180 0 3 (dk_at dksX4_enters_1 18 rfl rfl)
theorem dX4_enters_44 : decode cX4_enters 44 = .ok (.getfield 130, 3) := dk_180 0 130 (dk_at dksX4_enters_1 21 rfl rfl)
theorem dX4_enters_47 : decode cX4_enters 47 = .ok (.iload_n 2, 1) := dk_28 (dk_at dksX4_enters_2 0 rfl rfl)
theorem dX4_enters_48 : decode cX4_enters 48 = .ok (.iconst 5, 1) := dk_8 (dk_at dksX4_enters_2 1 rfl rfl)
theorem dX4_enters_49 : decode cX4_enters 49 = .ok (.invokevirtual 134, 3) := dk_182 0 134 (dk_at dksX4_enters_2 2 rfl rfl)
theorem dX4_enters_52 : decode cX4_enters 52 = .ok (.putfield 93, 3) := dk_181 0 93 (dk_at dksX4_enters_2 5 rfl rfl)
theorem dX4_enters_55 : decode cX4_enters 55 = .ok (.aload_n 0, 1) := dk_42 (dk_at dksX4_enters_2 8 rfl rfl)
theorem dX4_enters_56 : decode cX4_enters 56 = .ok (.aload_n 0, 1) := dk_42 (dk_at dksX4_enters_2 9 rfl rfl)
theorem dX4_enters_57 : decode cX4_enters 57 = .ok (.getfield 3, 3) := dk_180 0 3 (dk_at dksX4_enters_2 10 rfl rfl)
theorem dX4_enters_60 : decode cX4_enters 60 = .ok (.getfield 130, 3) := dk_180 0 130 (dk_at dksX4_enters_2 13 rfl rfl)
theorem dX4_enters_63 : decode cX4_enters 63 = .ok (.iload_n 2, 1) := dk_28 (dk_at dksX4_enters_2 16 rfl rfl)
theorem dX4_enters_64 : decode cX4_enters 64 = .ok (.bipush 6, 2) := dk_16 6 (dk_at dksX4_enters_2 17 rfl rfl)
theorem dX4_enters_66 : decode cX4_enters 66 = .ok (.invokevirtual 134, 3) := dk_182 0 134 (dk_at dksX4_enters_2 19 rfl rfl)
theorem dX4_enters_69 : decode cX4_enters 69 = .ok (.putfield 96, 3) := dk_181 0 96 (dk_at dksX4_enters_3 0 rfl rfl)
theorem dX4_enters_72 : decode cX4_enters 72 = .ok (.aload_n 0, 1) := dk_42 (dk_at dksX4_enters_3 3 rfl rfl)
theorem dX4_enters_73 : decode cX4_enters 73 = .ok (.getfield 40, 3) := dk_180 0 40 (dk_at dksX4_enters_3 4 rfl rfl)
theorem dX4_enters_76 : decode cX4_enters 76 = .ok (.invokevirtual 140, 3) := dk_182 0 140 (dk_at dksX4_enters_3 7 rfl rfl)
theorem dX4_enters_79 : decode cX4_enters 79 = .ok (.iconst 0, 1) := dk_3 (dk_at dksX4_enters_3 10 rfl rfl)
theorem dX4_enters_80 : decode cX4_enters 80 = .ok (.istore 4, 2) := dk_54 4 (dk_at dksX4_enters_3 11 rfl rfl)
theorem dX4_enters_82 : decode cX4_enters 82 = .ok (.iload 4, 2) := dk_21 4 (dk_at dksX4_enters_3 13 rfl rfl)
theorem dX4_enters_84 : decode cX4_enters 84 = .ok (.aload_n 3, 1) := dk_45 (dk_at dksX4_enters_3 15 rfl rfl)
theorem dX4_enters_85 : decode cX4_enters 85 = .ok (.getfield 143, 3) := dk_180 0 143 (dk_at dksX4_enters_3 16 rfl rfl)
theorem dX4_enters_88 : decode cX4_enters 88 = .ok (.if_icmp .ge 56, 3) := dk_162 0 56 (dk_at dksX4_enters_3 19 rfl rfl)
theorem dX4_enters_91 : decode cX4_enters 91 = .ok (.aload_n 3, 1) := dk_45 (dk_at dksX4_enters_3 22 rfl rfl)
theorem dX4_enters_92 : decode cX4_enters 92 = .ok (.getfield 146, 3) := dk_180 0 146 (dk_at dksX4_enters_4 0 rfl rfl)
theorem dX4_enters_95 : decode cX4_enters 95 = .ok (.iload 4, 2) := dk_21 4 (dk_at dksX4_enters_4 3 rfl rfl)
theorem dX4_enters_97 : decode cX4_enters 97 = .ok (.iaload, 1) := dk_46 (dk_at dksX4_enters_4 5 rfl rfl)
theorem dX4_enters_98 : decode cX4_enters 98 = .ok (.iconst (-1), 1) := dk_2 (dk_at dksX4_enters_4 6 rfl rfl)
theorem dX4_enters_99 : decode cX4_enters 99 = .ok (.if_icmp .eq 39, 3) := dk_159 0 39 (dk_at dksX4_enters_4 7 rfl rfl)
theorem dX4_enters_102 : decode cX4_enters 102 = .ok (.aload_n 0, 1) := dk_42 (dk_at dksX4_enters_4 10 rfl rfl)
theorem dX4_enters_103 : decode cX4_enters 103 = .ok (.getfield 40, 3) := dk_180 0 40 (dk_at dksX4_enters_4 11 rfl rfl)
theorem dX4_enters_106 : decode cX4_enters 106 = .ok (.iload 4, 2) := dk_21 4 (dk_at dksX4_enters_4 14 rfl rfl)
theorem dX4_enters_108 : decode cX4_enters 108 = .ok (.invokestatic 150, 3) := dk_184 0 150 (dk_at dksX4_enters_4 16 rfl rfl)
theorem dX4_enters_111 : decode cX4_enters 111 = .ok (.new 99, 3) := dk_187 0 99 (dk_at dksX4_enters_4 19 rfl rfl)
theorem dX4_enters_114 : decode cX4_enters 114 = .ok (.dup, 1) := dk_89 (dk_at dksX4_enters_4 22 rfl rfl)
theorem dX4_enters_115 : decode cX4_enters 115 = .ok (.aload_n 0, 1) := dk_42 (dk_at dksX4_enters_4 23 rfl rfl)
theorem dX4_enters_116 : decode cX4_enters 116 = .ok (.getfield 3, 3) := dk_180 0 3 (dk_at dksX4_enters_5 0 rfl rfl)
theorem dX4_enters_119 : decode cX4_enters 119 = .ok (.getfield 130, 3) := dk_180 0 130 (dk_at dksX4_enters_5 3 rfl rfl)
theorem dX4_enters_122 : decode cX4_enters 122 = .ok (.iload_n 2, 1) := dk_28 (dk_at dksX4_enters_5 6 rfl rfl)
theorem dX4_enters_123 : decode cX4_enters 123 = .ok (.bipush 100, 2) := dk_16 100 (dk_at dksX4_enters_5 7 rfl rfl)
theorem dX4_enters_125 : decode cX4_enters 125 = .ok (.iload 4, 2) := dk_21 4 (dk_at dksX4_enters_5 9 rfl rfl)
theorem dX4_enters_127 : decode cX4_enters 127 = .ok (.iadd, 1) := dk_96 (dk_at dksX4_enters_5 11 rfl rfl)
theorem dX4_enters_128 : decode cX4_enters 128 = .ok (.invokevirtual 134, 3) := dk_182 0 134 (dk_at dksX4_enters_5 12 rfl rfl)
theorem dX4_enters_131 : decode cX4_enters 131 = .ok (.invokespecial 154, 3) := dk_183 0 154 (dk_at dksX4_enters_5 15 rfl rfl)
theorem dX4_enters_134 : decode cX4_enters 134 = .ok (.invokevirtual 156, 3) := dk_182 0 156 (dk_at dksX4_enters_5 18 rfl rfl)
theorem dX4_enters_137 : decode cX4_enters 137 = .ok (.pop, 1) := dk_87 (dk_at dksX4_enters_5 21 rfl rfl)
theorem dX4_enters_138 : decode cX4_enters 138 = .ok (.iinc 4 1, 3) := dk_132 4 1 (dk_at dksX4_enters_6 0 rfl rfl)
theorem dX4_enters_141 : decode cX4_enters 141 = .ok (.goto (-59), 3) := dk_167 255 197 (dk_at dksX4_enters_6 3 rfl rfl)
theorem dX4_enters_144 : decode cX4_enters 144 = .ok (.aload_n 0, 1) := dk_42 (dk_at dksX4_enters_6 6 rfl rfl)
theorem dX4_enters_145 : decode cX4_enters 145 = .ok (.aload_n 3, 1) := dk_45 (dk_at dksX4_enters_6 7 rfl rfl)
theorem dX4_enters_146 : decode cX4_enters 146 = .ok (.invokevirtual 160, 3) := dk_182 0 160 (dk_at dksX4_enters_6 8 rfl rfl)
theorem dX4_enters_149 : decode cX4_enters 149 = .ok (.aload_n 0, 1) := dk_42 (dk_at dksX4_enters_6 11 rfl rfl)
theorem dX4_enters_150 : decode cX4_enters 150 = .ok (.invokevirtual 164, 3) := dk_182 0 164 (dk_at dksX4_enters_6 12 rfl rfl)
theorem dX4_enters_153 : decode cX4_enters 153 = .ok (.return_, 1) := dk_177 (dk_at dksX4_enters_6 15 rfl rfl)
abbrev cX4_drops : ByteArray := prog_8_method_6_code
def yX4_drops : MethodName := ⟨RX4, "drops", "(LKeygrove$Tree;)V"⟩
def dkwX4_drops_3 : List UInt8 := [185, 0, 182, 1, 0, 167, 255, 194, 177]
abbrev dktX4_drops_3 : List UInt8 := dkwX4_drops_3 ++ []
def dkwX4_drops_2 : List UInt8 := [29, 46, 42, 180, 0, 36, 29, 184, 0, 150, 182, 0, 179, 192, 0, 84, 182, 0, 86, 159, 0, 9, 44]
abbrev dktX4_drops_2 : List UInt8 := dkwX4_drops_2 ++ dktX4_drops_3
def dkwX4_drops_1 : List UInt8 := [185, 0, 61, 1, 0, 192, 0, 84, 182, 0, 86, 62, 29, 43, 182, 0, 174, 162, 0, 29, 43, 180, 0, 176]
abbrev dktX4_drops_1 : List UInt8 := dkwX4_drops_1 ++ dktX4_drops_2
def dkwX4_drops_0 : List UInt8 := [42, 180, 0, 36, 182, 0, 167, 185, 0, 171, 1, 0, 77, 44, 185, 0, 55, 1, 0, 153, 0, 59, 44]
abbrev dktX4_drops_0 : List UInt8 := dkwX4_drops_0 ++ dktX4_drops_1
theorem dksX4_drops_0 : cX4_drops.data.toList.drop 0 = dktX4_drops_0 := by decide +kernel
theorem dksX4_drops_1 : cX4_drops.data.toList.drop 23 = dktX4_drops_1 := dk_seg dksX4_drops_0 23 rfl rfl
theorem dksX4_drops_2 : cX4_drops.data.toList.drop 47 = dktX4_drops_2 := dk_seg dksX4_drops_1 24 rfl rfl
theorem dksX4_drops_3 : cX4_drops.data.toList.drop 70 = dktX4_drops_3 := dk_seg dksX4_drops_2 23 rfl rfl
theorem dX4_drops_0 : decode cX4_drops 0 = .ok (.aload_n 0, 1) := dk_42 (dk_at dksX4_drops_0 0 rfl rfl)
theorem dX4_drops_1 : decode cX4_drops 1 = .ok (.getfield 36, 3) := dk_180 0 36 (dk_at dksX4_drops_0 1 rfl rfl)
theorem dX4_drops_4 : decode cX4_drops 4 = .ok (.invokevirtual 167, 3) := dk_182 0 167 (dk_at dksX4_drops_0 4 rfl rfl)
theorem dX4_drops_7 : decode cX4_drops 7 = .ok (.invokeinterface 171 1, 5) := by decide +kernel
theorem dX4_drops_12 : decode cX4_drops 12 = .ok (.astore_n 2, 1) := dk_77 (dk_at dksX4_drops_0 12 rfl rfl)
theorem dX4_drops_13 : decode cX4_drops 13 = .ok (.aload_n 2, 1) := dk_44 (dk_at dksX4_drops_0 13 rfl rfl)
theorem dX4_drops_14 : decode cX4_drops 14 = .ok (.invokeinterface 55 1, 5) := by decide +kernel
theorem dX4_drops_19 : decode cX4_drops 19 = .ok (.ifCond .eq 59, 3) := dk_153 0 59 (dk_at dksX4_drops_0 19 rfl rfl)
theorem dX4_drops_22 : decode cX4_drops 22 = .ok (.aload_n 2, 1) := dk_44 (dk_at dksX4_drops_0 22 rfl rfl)
theorem dX4_drops_23 : decode cX4_drops 23 = .ok (.invokeinterface 61 1, 5) := by decide +kernel
theorem dX4_drops_28 : decode cX4_drops 28 = .ok (.checkcast 84, 3) := dk_192 0 84 (dk_at dksX4_drops_1 5 rfl rfl)
theorem dX4_drops_31 : decode cX4_drops 31 = .ok (.invokevirtual 86, 3) := dk_182 0 86 (dk_at dksX4_drops_1 8 rfl rfl)
theorem dX4_drops_34 : decode cX4_drops 34 = .ok (.istore_n 3, 1) := dk_62 (dk_at dksX4_drops_1 11 rfl rfl)
theorem dX4_drops_35 : decode cX4_drops 35 = .ok (.iload_n 3, 1) := dk_29 (dk_at dksX4_drops_1 12 rfl rfl)
theorem dX4_drops_36 : decode cX4_drops 36 = .ok (.aload_n 1, 1) := dk_43 (dk_at dksX4_drops_1 13 rfl rfl)
theorem dX4_drops_37 : decode cX4_drops 37 = .ok (.invokevirtual 174, 3) := dk_182 0 174 (dk_at dksX4_drops_1 14 rfl rfl)
theorem dX4_drops_40 : decode cX4_drops 40 = .ok (.if_icmp .ge 29, 3) := dk_162 0 29 (dk_at dksX4_drops_1 17 rfl rfl)
theorem dX4_drops_43 : decode cX4_drops 43 = .ok (.aload_n 1, 1) := dk_43 (dk_at dksX4_drops_1 20 rfl rfl)
theorem dX4_drops_44 : decode cX4_drops 44 = .ok (.getfield 176, 3) := dk_180 0 176 (dk_at dksX4_drops_1 21 rfl rfl)
theorem dX4_drops_47 : decode cX4_drops 47 = .ok (.iload_n 3, 1) := dk_29 (dk_at dksX4_drops_2 0 rfl rfl)
theorem dX4_drops_48 : decode cX4_drops 48 = .ok (.iaload, 1) := dk_46 (dk_at dksX4_drops_2 1 rfl rfl)
theorem dX4_drops_49 : decode cX4_drops 49 = .ok (.aload_n 0, 1) := dk_42 (dk_at dksX4_drops_2 2 rfl rfl)
theorem dX4_drops_50 : decode cX4_drops 50 = .ok (.getfield 36, 3) := dk_180 0 36 (dk_at dksX4_drops_2 3 rfl rfl)
theorem dX4_drops_53 : decode cX4_drops 53 = .ok (.iload_n 3, 1) := dk_29 (dk_at dksX4_drops_2 6 rfl rfl)
theorem dX4_drops_54 : decode cX4_drops 54 = .ok (.invokestatic 150, 3) := dk_184 0 150 (dk_at dksX4_drops_2 7 rfl rfl)
theorem dX4_drops_57 : decode cX4_drops 57 = .ok (.invokevirtual 179, 3) := dk_182 0 179 (dk_at dksX4_drops_2 10 rfl rfl)
theorem dX4_drops_60 : decode cX4_drops 60 = .ok (.checkcast 84, 3) := dk_192 0 84 (dk_at dksX4_drops_2 13 rfl rfl)
theorem dX4_drops_63 : decode cX4_drops 63 = .ok (.invokevirtual 86, 3) := dk_182 0 86 (dk_at dksX4_drops_2 16 rfl rfl)
theorem dX4_drops_66 : decode cX4_drops 66 = .ok (.if_icmp .eq 9, 3) := dk_159 0 9 (dk_at dksX4_drops_2 19 rfl rfl)
theorem dX4_drops_69 : decode cX4_drops 69 = .ok (.aload_n 2, 1) := dk_44 (dk_at dksX4_drops_2 22 rfl rfl)
theorem dX4_drops_70 : decode cX4_drops 70 = .ok (.invokeinterface 182 1, 5) := by decide +kernel
theorem dX4_drops_75 : decode cX4_drops 75 = .ok (.goto (-62), 3) := dk_167 255 194 (dk_at dksX4_drops_3 5 rfl rfl)
theorem dX4_drops_78 : decode cX4_drops 78 = .ok (.return_, 1) := dk_177 (dk_at dksX4_drops_3 8 rfl rfl)
abbrev cX4_leaves : ByteArray := prog_8_method_7_code
def yX4_leaves : MethodName := ⟨RX4, "leaves", "()V"⟩
def dkwX4_leaves_1 : List UInt8 := [177]
abbrev dktX4_leaves_1 : List UInt8 := dkwX4_leaves_1 ++ []
def dkwX4_leaves_0 : List UInt8 := [42, 2, 181, 0, 29, 42, 2, 181, 0, 43, 42, 180, 0, 36, 182, 0, 140, 42, 180, 0, 40, 182, 0, 140]
abbrev dktX4_leaves_0 : List UInt8 := dkwX4_leaves_0 ++ dktX4_leaves_1
theorem dksX4_leaves_0 : cX4_leaves.data.toList.drop 0 = dktX4_leaves_0 := by decide +kernel
theorem dksX4_leaves_1 : cX4_leaves.data.toList.drop 24 = dktX4_leaves_1 := dk_seg dksX4_leaves_0 24 rfl rfl
theorem dX4_leaves_0 : decode cX4_leaves 0 = .ok (.aload_n 0, 1) := dk_42 (dk_at dksX4_leaves_0 0 rfl rfl)
theorem dX4_leaves_1 : decode cX4_leaves 1 = .ok (.iconst (-1), 1) := dk_2 (dk_at dksX4_leaves_0 1 rfl rfl)
theorem dX4_leaves_2 : decode cX4_leaves 2 = .ok (.putfield 29, 3) := dk_181 0 29 (dk_at dksX4_leaves_0 2 rfl rfl)
theorem dX4_leaves_5 : decode cX4_leaves 5 = .ok (.aload_n 0, 1) := dk_42 (dk_at dksX4_leaves_0 5 rfl rfl)
theorem dX4_leaves_6 : decode cX4_leaves 6 = .ok (.iconst (-1), 1) := dk_2 (dk_at dksX4_leaves_0 6 rfl rfl)
theorem dX4_leaves_7 : decode cX4_leaves 7 = .ok (.putfield 43, 3) := dk_181 0 43 (dk_at dksX4_leaves_0 7 rfl rfl)
theorem dX4_leaves_10 : decode cX4_leaves 10 = .ok (.aload_n 0, 1) := dk_42 (dk_at dksX4_leaves_0 10 rfl rfl)
theorem dX4_leaves_11 : decode cX4_leaves 11 = .ok (.getfield 36, 3) := dk_180 0 36 (dk_at dksX4_leaves_0 11 rfl rfl)
theorem dX4_leaves_14 : decode cX4_leaves 14 = .ok (.invokevirtual 140, 3) := dk_182 0 140 (dk_at dksX4_leaves_0 14 rfl rfl)
theorem dX4_leaves_17 : decode cX4_leaves 17 = .ok (.aload_n 0, 1) := dk_42 (dk_at dksX4_leaves_0 17 rfl rfl)
theorem dX4_leaves_18 : decode cX4_leaves 18 = .ok (.getfield 40, 3) := dk_180 0 40 (dk_at dksX4_leaves_0 18 rfl rfl)
theorem dX4_leaves_21 : decode cX4_leaves 21 = .ok (.invokevirtual 140, 3) := dk_182 0 140 (dk_at dksX4_leaves_0 21 rfl rfl)
theorem dX4_leaves_24 : decode cX4_leaves 24 = .ok (.return_, 1) := dk_177 (dk_at dksX4_leaves_1 0 rfl rfl)
theorem q90 : (Jvm.Cond.initialized "Keygrove$Person") ∈ lw_all := lw_g (lw_at lw_m1 14 rfl) rfl
theorem q276 : (Jvm.Cond.fieldLinkNest "Keygrove$Person" (130 : Nat) "Keygrove" "book" "LKeygrove$Book;" "Keygrove") ∈ lw_tbl := lw_at lw_m1 200 rfl
theorem q281 : (Jvm.Cond.fieldLinkNest "Keygrove$Person" (114 : Nat) "Keygrove" "trees" "Ljava/util/List;" "Keygrove") ∈ lw_tbl := lw_at lw_m1 205 rfl
theorem q740 : (Jvm.Cond.selects "Keygrove$Person" ({ cls := "java/lang/Object", name := "getClass", desc := "()Ljava/lang/Class;" } : Jvm.MethodName) ({ cls := "java/lang/Object", name := "getClass", desc := "()Ljava/lang/Class;" } : Jvm.MethodName)) ∈ lw_all := lw_g (lw_at lw_m3 184 rfl) rfl
theorem q1163 : (Jvm.Cond.instanceMethod ({ cls := "Keygrove$Person", name := "held", desc := "()Ljava/util/BitSet;" } : Jvm.MethodName)) ∈ lw_all := lw_g (lw_at lw_m5 127 rfl) rfl
theorem q1164 : (Jvm.Cond.selects "Keygrove$Person" ({ cls := "Keygrove$Person", name := "held", desc := "()Ljava/util/BitSet;" } : Jvm.MethodName) ({ cls := "Keygrove$Person", name := "held", desc := "()Ljava/util/BitSet;" } : Jvm.MethodName)) ∈ lw_all := lw_g (lw_at lw_m5 128 rfl) rfl
theorem q1165 : (Jvm.Cond.code ({ cls := "Keygrove$Person", name := "held", desc := "()Ljava/util/BitSet;" } : Jvm.MethodName) prog_8_method_3_code (6 : Nat) (Option.some (Jvm.ClassFile.FieldType.object "java/util/BitSet"))) ∈ lw_all := lw_g (lw_at lw_m5 129 rfl) rfl
theorem q1166 : (Jvm.Cond.classLink "Keygrove$Person" (15 : Nat) "java/util/BitSet") ∈ lw_all := lw_g (lw_at lw_m5 130 rfl) rfl
theorem q1167 : (Jvm.Cond.methodLink "Keygrove$Person" (17 : Nat) ({ cls := "java/util/BitSet", name := "<init>", desc := "()V" } : Jvm.MethodName)) ∈ lw_all := lw_g (lw_at lw_m5 131 rfl) rfl
theorem q1168 : (Jvm.Cond.interfaceEntry "Keygrove$Person" (49 : Nat)) ∈ lw_tbl := lw_at lw_m5 132 rfl
theorem q1169 : (Jvm.Cond.methodLink "Keygrove$Person" (49 : Nat) ({ cls := "java/util/List", name := "iterator", desc := "()Ljava/util/Iterator;" } : Jvm.MethodName)) ∈ lw_all := lw_g (lw_at lw_m5 133 rfl) rfl
theorem q1170 : (Jvm.Cond.interfaceEntry "Keygrove$Person" (55 : Nat)) ∈ lw_tbl := lw_at lw_m5 134 rfl
theorem q1171 : (Jvm.Cond.methodLink "Keygrove$Person" (55 : Nat) ({ cls := "java/util/Iterator", name := "hasNext", desc := "()Z" } : Jvm.MethodName)) ∈ lw_all := lw_g (lw_at lw_m5 135 rfl) rfl
theorem q1172 : (Jvm.Cond.interfaceEntry "Keygrove$Person" (61 : Nat)) ∈ lw_tbl := lw_at lw_m5 136 rfl
theorem q1173 : (Jvm.Cond.methodLink "Keygrove$Person" (61 : Nat) ({ cls := "java/util/Iterator", name := "next", desc := "()Ljava/lang/Object;" } : Jvm.MethodName)) ∈ lw_all := lw_g (lw_at lw_m5 137 rfl) rfl
theorem q1174 : (Jvm.Cond.classLink "Keygrove$Person" (65 : Nat) "Keygrove$Pack") ∈ lw_all := lw_g (lw_at lw_m5 138 rfl) rfl
theorem q1175 : (Jvm.Cond.methodLink "Keygrove$Person" (70 : Nat) ({ cls := "java/util/BitSet", name := "set", desc := "(I)V" } : Jvm.MethodName)) ∈ lw_all := lw_g (lw_at lw_m5 139 rfl) rfl
theorem q1176 : (Jvm.Cond.methodLink "Keygrove$Person" (77 : Nat) ({ cls := "java/util/TreeMap", name := "values", desc := "()Ljava/util/Collection;" } : Jvm.MethodName)) ∈ lw_all := lw_g (lw_at lw_m5 140 rfl) rfl
theorem q1190 : (Jvm.Cond.interfaceEntry "Keygrove$Person" (81 : Nat)) ∈ lw_tbl := lw_at lw_m5 154 rfl
theorem q1191 : (Jvm.Cond.methodLink "Keygrove$Person" (81 : Nat) ({ cls := "java/util/Collection", name := "iterator", desc := "()Ljava/util/Iterator;" } : Jvm.MethodName)) ∈ lw_all := lw_g (lw_at lw_m5 155 rfl) rfl
theorem q1204 : (Jvm.Cond.classLink "Keygrove$Person" (84 : Nat) "java/lang/Integer") ∈ lw_all := lw_g (lw_at lw_m5 168 rfl) rfl
theorem q1205 : (Jvm.Cond.methodLink "Keygrove$Person" (86 : Nat) ({ cls := "java/lang/Integer", name := "intValue", desc := "()I" } : Jvm.MethodName)) ∈ lw_all := lw_g (lw_at lw_m5 169 rfl) rfl
theorem q1206 : (Jvm.Cond.methodLink "Keygrove$Person" (90 : Nat) ({ cls := "Keygrove$Person", name := "isIn", desc := "()Z" } : Jvm.MethodName)) ∈ lw_all := lw_g (lw_at lw_m5 170 rfl) rfl
theorem q1207 : (Jvm.Cond.instanceMethod ({ cls := "Keygrove$Person", name := "isIn", desc := "()Z" } : Jvm.MethodName)) ∈ lw_all := lw_g (lw_at lw_m5 171 rfl) rfl
theorem q1208 : (Jvm.Cond.selects "Keygrove$Person" ({ cls := "Keygrove$Person", name := "isIn", desc := "()Z" } : Jvm.MethodName) ({ cls := "Keygrove$Person", name := "isIn", desc := "()Z" } : Jvm.MethodName)) ∈ lw_all := lw_g (lw_at lw_m5 172 rfl) rfl
theorem q1209 : (Jvm.Cond.code ({ cls := "Keygrove$Person", name := "isIn", desc := "()Z" } : Jvm.MethodName) prog_8_method_2_code (1 : Nat) (Option.some Jvm.ClassFile.FieldType.boolean)) ∈ lw_all := lw_g (lw_at lw_m5 173 rfl) rfl
theorem q1210 : (Jvm.Cond.classLink "Keygrove$Person" (99 : Nat) "Keygrove$Chain") ∈ lw_all := lw_g (lw_at lw_m5 174 rfl) rfl
theorem q1272 : (Jvm.Cond.selects "Keygrove$Person" ({ cls := "java/lang/Object", name := "hashCode", desc := "()I" } : Jvm.MethodName) ({ cls := "java/lang/Object", name := "hashCode", desc := "()I" } : Jvm.MethodName)) ∈ lw_all := lw_g (lw_at lw_m5 236 rfl) rfl
theorem q1373 : (Jvm.Cond.selects "Keygrove$Person" ({ cls := "java/lang/Object", name := "equals", desc := "(Ljava/lang/Object;)Z" } : Jvm.MethodName) ({ cls := "java/lang/Object", name := "equals", desc := "(Ljava/lang/Object;)Z" } : Jvm.MethodName)) ∈ lw_all := lw_g (lw_at lw_m6 97 rfl) rfl
theorem q1857 : (Jvm.Cond.instantiable "Keygrove$Person" (11 : Nat)) ∈ lw_all := lw_g (lw_at lw_m8 101 rfl) rfl
theorem q1859 : (Jvm.Cond.instanceMethod ({ cls := "Keygrove$Person", name := "<init>", desc := "(LKeygrove;I)V" } : Jvm.MethodName)) ∈ lw_all := lw_g (lw_at lw_m8 103 rfl) rfl
theorem q1860 : (Jvm.Cond.code ({ cls := "Keygrove$Person", name := "<init>", desc := "(LKeygrove;I)V" } : Jvm.MethodName) prog_8_method_1_code (3 : Nat) (Option.none : Option Jvm.ClassFile.FieldType)) ∈ lw_all := lw_g (lw_at lw_m8 104 rfl) rfl
theorem q1861 : (Jvm.Cond.methodLink "Keygrove$Person" (9 : Nat) ({ cls := "java/lang/Object", name := "<init>", desc := "()V" } : Jvm.MethodName)) ∈ lw_all := lw_g (lw_at lw_m8 105 rfl) rfl
theorem q1862 : (Jvm.Cond.classLink "Keygrove$Person" (22 : Nat) "java/util/ArrayList") ∈ lw_all := lw_g (lw_at lw_m8 106 rfl) rfl
theorem q1863 : (Jvm.Cond.methodLink "Keygrove$Person" (24 : Nat) ({ cls := "java/util/ArrayList", name := "<init>", desc := "()V" } : Jvm.MethodName)) ∈ lw_all := lw_g (lw_at lw_m8 107 rfl) rfl
theorem q1864 : (Jvm.Cond.classLink "Keygrove$Person" (33 : Nat) "java/util/TreeMap") ∈ lw_all := lw_g (lw_at lw_m8 108 rfl) rfl
theorem q1866 : (Jvm.Cond.methodLink "Keygrove$Person" (35 : Nat) ({ cls := "java/util/TreeMap", name := "<init>", desc := "()V" } : Jvm.MethodName)) ∈ lw_all := lw_g (lw_at lw_m8 110 rfl) rfl
theorem q1894 : (Jvm.Cond.fieldLink "Keygrove$Person" (46 : Nat) "Keygrove$Person" "number" "I") ∈ lw_all := lw_g (lw_at lw_m8 138 rfl) rfl
theorem q1896 : (Jvm.Cond.fieldLink "Keygrove$Person" (18 : Nat) "Keygrove$Person" "ever" "Ljava/util/BitSet;") ∈ lw_all := lw_g (lw_at lw_m8 140 rfl) rfl
theorem q1898 : (Jvm.Cond.fieldLink "Keygrove$Person" (25 : Nat) "Keygrove$Person" "packs" "Ljava/util/List;") ∈ lw_all := lw_g (lw_at lw_m8 142 rfl) rfl
theorem q1900 : (Jvm.Cond.fieldLink "Keygrove$Person" (29 : Nat) "Keygrove$Person" "epoch" "I") ∈ lw_all := lw_g (lw_at lw_m8 144 rfl) rfl
theorem q1902 : (Jvm.Cond.fieldLink "Keygrove$Person" (127 : Nat) "Keygrove$Person" "leaf" "I") ∈ lw_all := lw_g (lw_at lw_m8 146 rfl) rfl
theorem q1904 : (Jvm.Cond.fieldLink "Keygrove$Person" (36 : Nat) "Keygrove$Person" "nodes" "Ljava/util/TreeMap;") ∈ lw_all := lw_g (lw_at lw_m8 148 rfl) rfl
theorem q1906 : (Jvm.Cond.fieldLink "Keygrove$Person" (93 : Nat) "Keygrove$Person" "onward" "I") ∈ lw_all := lw_g (lw_at lw_m8 150 rfl) rfl
theorem q1908 : (Jvm.Cond.fieldLink "Keygrove$Person" (96 : Nat) "Keygrove$Person" "key" "I") ∈ lw_all := lw_g (lw_at lw_m8 152 rfl) rfl
theorem q1910 : (Jvm.Cond.fieldLink "Keygrove$Person" (40 : Nat) "Keygrove$Person" "chains" "Ljava/util/TreeMap;") ∈ lw_all := lw_g (lw_at lw_m8 154 rfl) rfl
theorem q1912 : (Jvm.Cond.fieldLink "Keygrove$Person" (43 : Nat) "Keygrove$Person" "renewal" "I") ∈ lw_all := lw_g (lw_at lw_m8 156 rfl) rfl
theorem q1914 : (Jvm.Cond.fieldLink "Keygrove$Person" (3 : Nat) "Keygrove$Person" "this$0" "LKeygrove;") ∈ lw_all := lw_g (lw_at lw_m8 158 rfl) rfl
theorem q1915 : (Jvm.Cond.laysFinal "Keygrove$Person" "Keygrove$Person" "number" "I") ∈ lw_all := lw_g (lw_at lw_m8 159 rfl) rfl
theorem q1916 : (Jvm.Cond.soleField "Keygrove$Person" "number") ∈ lw_all := lw_g (lw_at lw_m8 160 rfl) rfl
theorem q1917 : (Jvm.Cond.laysFinal "Keygrove$Person" "Keygrove$Person" "ever" "Ljava/util/BitSet;") ∈ lw_all := lw_g (lw_at lw_m8 161 rfl) rfl
theorem q1918 : (Jvm.Cond.soleField "Keygrove$Person" "ever") ∈ lw_all := lw_g (lw_at lw_m8 162 rfl) rfl
theorem q1919 : (Jvm.Cond.laysFinal "Keygrove$Person" "Keygrove$Person" "packs" "Ljava/util/List;") ∈ lw_all := lw_g (lw_at lw_m8 163 rfl) rfl
theorem q1920 : (Jvm.Cond.soleField "Keygrove$Person" "packs") ∈ lw_all := lw_g (lw_at lw_m8 164 rfl) rfl
theorem q1921 : (Jvm.Cond.lays "Keygrove$Person" "Keygrove$Person" "epoch" "I") ∈ lw_all := lw_g (lw_at lw_m8 165 rfl) rfl
theorem q1922 : (Jvm.Cond.soleField "Keygrove$Person" "epoch") ∈ lw_all := lw_g (lw_at lw_m8 166 rfl) rfl
theorem q1923 : (Jvm.Cond.lays "Keygrove$Person" "Keygrove$Person" "leaf" "I") ∈ lw_all := lw_g (lw_at lw_m8 167 rfl) rfl
theorem q1924 : (Jvm.Cond.soleField "Keygrove$Person" "leaf") ∈ lw_all := lw_g (lw_at lw_m8 168 rfl) rfl
theorem q1925 : (Jvm.Cond.laysFinal "Keygrove$Person" "Keygrove$Person" "nodes" "Ljava/util/TreeMap;") ∈ lw_all := lw_g (lw_at lw_m8 169 rfl) rfl
theorem q1926 : (Jvm.Cond.soleField "Keygrove$Person" "nodes") ∈ lw_all := lw_g (lw_at lw_m8 170 rfl) rfl
theorem q1927 : (Jvm.Cond.lays "Keygrove$Person" "Keygrove$Person" "onward" "I") ∈ lw_all := lw_g (lw_at lw_m8 171 rfl) rfl
theorem q1928 : (Jvm.Cond.soleField "Keygrove$Person" "onward") ∈ lw_all := lw_g (lw_at lw_m8 172 rfl) rfl
theorem q1929 : (Jvm.Cond.lays "Keygrove$Person" "Keygrove$Person" "key" "I") ∈ lw_all := lw_g (lw_at lw_m8 173 rfl) rfl
theorem q1930 : (Jvm.Cond.soleField "Keygrove$Person" "key") ∈ lw_all := lw_g (lw_at lw_m8 174 rfl) rfl
theorem q1931 : (Jvm.Cond.laysFinal "Keygrove$Person" "Keygrove$Person" "chains" "Ljava/util/TreeMap;") ∈ lw_all := lw_g (lw_at lw_m8 175 rfl) rfl
theorem q1932 : (Jvm.Cond.soleField "Keygrove$Person" "chains") ∈ lw_all := lw_g (lw_at lw_m8 176 rfl) rfl
theorem q1933 : (Jvm.Cond.lays "Keygrove$Person" "Keygrove$Person" "renewal" "I") ∈ lw_all := lw_g (lw_at lw_m8 177 rfl) rfl
theorem q1934 : (Jvm.Cond.soleField "Keygrove$Person" "renewal") ∈ lw_all := lw_g (lw_at lw_m8 178 rfl) rfl
theorem q1935 : (Jvm.Cond.laysFinal "Keygrove$Person" "Keygrove$Person" "this$0" "LKeygrove;") ∈ lw_all := lw_g (lw_at lw_m8 179 rfl) rfl
theorem q1936 : (Jvm.Cond.soleField "Keygrove$Person" "this$0") ∈ lw_all := lw_g (lw_at lw_m8 180 rfl) rfl
theorem q1937 : (Jvm.Cond.superclass "Keygrove$Person" "java/lang/Object") ∈ lw_all := lw_g (lw_at lw_m8 181 rfl) rfl
theorem q1990 : (Jvm.Cond.fieldLinkNest "Keygrove$Person" (67 : Nat) "Keygrove$Pack" "first" "I" "Keygrove") ∈ lw_tbl := lw_at lw_m8 234 rfl
theorem q1993 : (Jvm.Cond.fieldLinkNest "Keygrove$Person" (74 : Nat) "Keygrove$Pack" "second" "I" "Keygrove") ∈ lw_tbl := lw_at lw_m8 237 rfl
theorem q2013 : (Jvm.Cond.instanceMethod ({ cls := "Keygrove$Person", name := "notes", desc := "()V" } : Jvm.MethodName)) ∈ lw_all := lw_g (lw_at lw_m9 17 rfl) rfl
theorem q2014 : (Jvm.Cond.selects "Keygrove$Person" ({ cls := "Keygrove$Person", name := "notes", desc := "()V" } : Jvm.MethodName) ({ cls := "Keygrove$Person", name := "notes", desc := "()V" } : Jvm.MethodName)) ∈ lw_all := lw_g (lw_at lw_m9 18 rfl) rfl
theorem q2015 : (Jvm.Cond.code ({ cls := "Keygrove$Person", name := "notes", desc := "()V" } : Jvm.MethodName) prog_8_method_4_code (1 : Nat) (Option.none : Option Jvm.ClassFile.FieldType)) ∈ lw_all := lw_g (lw_at lw_m9 19 rfl) rfl
theorem q2016 : (Jvm.Cond.methodLink "Keygrove$Person" (106 : Nat) ({ cls := "Keygrove$Person", name := "held", desc := "()Ljava/util/BitSet;" } : Jvm.MethodName)) ∈ lw_all := lw_g (lw_at lw_m9 20 rfl) rfl
theorem q2017 : (Jvm.Cond.methodLink "Keygrove$Person" (110 : Nat) ({ cls := "java/util/BitSet", name := "or", desc := "(Ljava/util/BitSet;)V" } : Jvm.MethodName)) ∈ lw_all := lw_g (lw_at lw_m9 21 rfl) rfl
theorem q2036 : (Jvm.Cond.fieldLinkNest "Keygrove$Person" (143 : Nat) "Keygrove$Tree" "leaves" "I" "Keygrove") ∈ lw_tbl := lw_at lw_m9 40 rfl
theorem q2039 : (Jvm.Cond.fieldLinkNest "Keygrove$Person" (176 : Nat) "Keygrove$Tree" "secrets" "[I" "Keygrove") ∈ lw_tbl := lw_at lw_m9 43 rfl
theorem q2044 : (Jvm.Cond.fieldLinkNest "Keygrove$Person" (146 : Nat) "Keygrove$Tree" "persons" "[I" "Keygrove") ∈ lw_tbl := lw_at lw_m9 48 rfl
theorem q2169 : (Jvm.Cond.instanceMethod ({ cls := "Keygrove$Person", name := "enters", desc := "(II)V" } : Jvm.MethodName)) ∈ lw_all := lw_g (lw_at lw_m9 173 rfl) rfl
theorem q2170 : (Jvm.Cond.selects "Keygrove$Person" ({ cls := "Keygrove$Person", name := "enters", desc := "(II)V" } : Jvm.MethodName) ({ cls := "Keygrove$Person", name := "enters", desc := "(II)V" } : Jvm.MethodName)) ∈ lw_all := lw_g (lw_at lw_m9 174 rfl) rfl
theorem q2171 : (Jvm.Cond.code ({ cls := "Keygrove$Person", name := "enters", desc := "(II)V" } : Jvm.MethodName) prog_8_method_5_code (5 : Nat) (Option.none : Option Jvm.ClassFile.FieldType)) ∈ lw_all := lw_g (lw_at lw_m9 175 rfl) rfl
theorem q2172 : (Jvm.Cond.interfaceEntry "Keygrove$Person" (117 : Nat)) ∈ lw_tbl := lw_at lw_m9 176 rfl
theorem q2173 : (Jvm.Cond.methodLink "Keygrove$Person" (117 : Nat) ({ cls := "java/util/List", name := "get", desc := "(I)Ljava/lang/Object;" } : Jvm.MethodName)) ∈ lw_all := lw_g (lw_at lw_m9 177 rfl) rfl
theorem q2174 : (Jvm.Cond.classLink "Keygrove$Person" (121 : Nat) "Keygrove$Tree") ∈ lw_all := lw_g (lw_at lw_m9 178 rfl) rfl
theorem q2175 : (Jvm.Cond.methodLink "Keygrove$Person" (123 : Nat) ({ cls := "Keygrove$Tree", name := "leafOf", desc := "(I)I" } : Jvm.MethodName)) ∈ lw_all := lw_g (lw_at lw_m9 179 rfl) rfl
theorem q2176 : (Jvm.Cond.methodLink "Keygrove$Person" (134 : Nat) ({ cls := "Keygrove$Book", name := "from", desc := "(II)I" } : Jvm.MethodName)) ∈ lw_all := lw_g (lw_at lw_m9 180 rfl) rfl
theorem q2177 : (Jvm.Cond.methodLink "Keygrove$Person" (140 : Nat) ({ cls := "java/util/TreeMap", name := "clear", desc := "()V" } : Jvm.MethodName)) ∈ lw_all := lw_g (lw_at lw_m9 181 rfl) rfl
theorem q2181 : (Jvm.Cond.methodLink "Keygrove$Person" (150 : Nat) ({ cls := "java/lang/Integer", name := "valueOf", desc := "(I)Ljava/lang/Integer;" } : Jvm.MethodName)) ∈ lw_all := lw_g (lw_at lw_m9 185 rfl) rfl
theorem q2183 : (Jvm.Cond.methodLink "Keygrove$Person" (154 : Nat) ({ cls := "Keygrove$Chain", name := "<init>", desc := "(I)V" } : Jvm.MethodName)) ∈ lw_all := lw_g (lw_at lw_m9 187 rfl) rfl
theorem q2190 : (Jvm.Cond.fieldLinkNest "Keygrove$Person" (101 : Nat) "Keygrove$Chain" "next" "I" "Keygrove") ∈ lw_tbl := lw_at lw_m9 194 rfl
theorem q2194 : (Jvm.Cond.fieldLinkNest "Keygrove$Person" (103 : Nat) "Keygrove$Chain" "left" "Ljava/util/TreeMap;" "Keygrove") ∈ lw_tbl := lw_at lw_m9 198 rfl
theorem q2203 : (Jvm.Cond.methodLink "Keygrove$Person" (156 : Nat) ({ cls := "java/util/TreeMap", name := "put", desc := "(Ljava/lang/Object;Ljava/lang/Object;)Ljava/lang/Object;" } : Jvm.MethodName)) ∈ lw_all := lw_g (lw_at lw_m9 207 rfl) rfl
theorem q2204 : (Jvm.Cond.methodLink "Keygrove$Person" (160 : Nat) ({ cls := "Keygrove$Person", name := "drops", desc := "(LKeygrove$Tree;)V" } : Jvm.MethodName)) ∈ lw_all := lw_g (lw_at lw_m9 208 rfl) rfl
theorem q2205 : (Jvm.Cond.privateMethod ({ cls := "Keygrove$Person", name := "drops", desc := "(LKeygrove$Tree;)V" } : Jvm.MethodName)) ∈ lw_tbl := lw_at lw_m9 209 rfl
theorem q2206 : (Jvm.Cond.instanceMethod ({ cls := "Keygrove$Person", name := "drops", desc := "(LKeygrove$Tree;)V" } : Jvm.MethodName)) ∈ lw_all := lw_g (lw_at lw_m9 210 rfl) rfl
theorem q2207 : (Jvm.Cond.code ({ cls := "Keygrove$Person", name := "drops", desc := "(LKeygrove$Tree;)V" } : Jvm.MethodName) prog_8_method_6_code (4 : Nat) (Option.none : Option Jvm.ClassFile.FieldType)) ∈ lw_all := lw_g (lw_at lw_m9 211 rfl) rfl
theorem q2208 : (Jvm.Cond.methodLink "Keygrove$Person" (167 : Nat) ({ cls := "java/util/TreeMap", name := "keySet", desc := "()Ljava/util/Set;" } : Jvm.MethodName)) ∈ lw_all := lw_g (lw_at lw_m9 212 rfl) rfl
theorem q2229 : (Jvm.Cond.interfaceEntry "Keygrove$Person" (171 : Nat)) ∈ lw_tbl := lw_at lw_m9 233 rfl
theorem q2230 : (Jvm.Cond.methodLink "Keygrove$Person" (171 : Nat) ({ cls := "java/util/Set", name := "iterator", desc := "()Ljava/util/Iterator;" } : Jvm.MethodName)) ∈ lw_all := lw_g (lw_at lw_m9 234 rfl) rfl
theorem q2239 : (Jvm.Cond.methodLink "Keygrove$Person" (174 : Nat) ({ cls := "Keygrove$Tree", name := "nodes", desc := "()I" } : Jvm.MethodName)) ∈ lw_all := lw_g (lw_at lw_m10 3 rfl) rfl
theorem q2240 : (Jvm.Cond.methodLink "Keygrove$Person" (179 : Nat) ({ cls := "java/util/TreeMap", name := "get", desc := "(Ljava/lang/Object;)Ljava/lang/Object;" } : Jvm.MethodName)) ∈ lw_all := lw_g (lw_at lw_m10 4 rfl) rfl
theorem q2241 : (Jvm.Cond.interfaceEntry "Keygrove$Person" (182 : Nat)) ∈ lw_tbl := lw_at lw_m10 5 rfl
theorem q2242 : (Jvm.Cond.methodLink "Keygrove$Person" (182 : Nat) ({ cls := "java/util/Iterator", name := "remove", desc := "()V" } : Jvm.MethodName)) ∈ lw_all := lw_g (lw_at lw_m10 6 rfl) rfl
theorem q2318 : (Jvm.Cond.methodLink "Keygrove$Person" (164 : Nat) ({ cls := "Keygrove$Person", name := "notes", desc := "()V" } : Jvm.MethodName)) ∈ lw_all := lw_g (lw_at lw_m10 82 rfl) rfl
theorem q2758 : (Jvm.Cond.instanceMethod ({ cls := "Keygrove$Person", name := "leaves", desc := "()V" } : Jvm.MethodName)) ∈ lw_all := lw_g (lw_at lw_m12 42 rfl) rfl
theorem q2759 : (Jvm.Cond.selects "Keygrove$Person" ({ cls := "Keygrove$Person", name := "leaves", desc := "()V" } : Jvm.MethodName) ({ cls := "Keygrove$Person", name := "leaves", desc := "()V" } : Jvm.MethodName)) ∈ lw_all := lw_g (lw_at lw_m12 43 rfl) rfl
theorem q2760 : (Jvm.Cond.code ({ cls := "Keygrove$Person", name := "leaves", desc := "()V" } : Jvm.MethodName) prog_8_method_7_code (1 : Nat) (Option.none : Option Jvm.ClassFile.FieldType)) ∈ lw_all := lw_g (lw_at lw_m12 44 rfl) rfl
theorem q3685 : (Jvm.Cond.castable "Keygrove$Person" "java/lang/Object") ∈ lw_tbl := lw_at lw_m16 9 rfl
theorem in_X4 : ∀ w ∈ wsX40, w ∈ lw_all := lw_in wsX40 [1915, 1917, 1919, 1921, 1923, 1925, 1927, 1929, 1931, 1933, 1935] (by decide +kernel) (by decide +kernel)
/-! KeygroveModel$Person -/
def RX5 : String := "KeygroveModel$Person"
def TX5 : u_T := fun k => match k with
  | 0 => ("KeygroveModel$Person", "epoch", "I", false)
  | 1 => ("KeygroveModel$Person", "leaf", "I", false)
  | 2 => ("KeygroveModel$Person", "leafSecret", "I", false)
  | 3 => ("KeygroveModel$Person", "renewal", "I", false)
  | 4 => ("KeygroveModel$Person", "nodes", "[I", true)
  | 5 => ("KeygroveModel$Person", "chains", "[LKeygroveModel$Chain;", true)
  | _ => ("KeygroveModel$Person", "ever", "Ljava/util/ArrayList;", true)
def tyX5 : Nat → FieldType := fun k => match k with
  | 0 => .int
  | 1 => .int
  | 2 => .int
  | 3 => .int
  | 4 => .array .int
  | 5 => .array (.object "KeygroveModel$Chain")
  | _ => .object "java/util/ArrayList"
abbrev wsX50 : List Cond := u_ws RX5 TX5 7
theorem nmX5 : ∀ a, a < 7 → ∀ b, b < 7 → a ≠ b → (TX5 a).2.1 ≠ (TX5 b).2.1 := by decide +kernel
theorem tyX5_ok : ∀ k, k < 7 → parseFieldDescriptor (TX5 k).2.2.1 = some (tyX5 k) := by decide +kernel
abbrev cX5_init : ByteArray := prog_21_method_1_code
def yX5_init : MethodName := ⟨RX5, "<init>", "()V"⟩
def dkwX5_init_1 : List UInt8 := [16, 16, 189, 0, 22, 181, 0, 24, 42, 187, 0, 28, 89, 183, 0, 30, 181, 0, 31, 177]
abbrev dktX5_init_1 : List UInt8 := dkwX5_init_1 ++ []
def dkwX5_init_0 : List UInt8 := [42, 183, 0, 3, 42, 2, 181, 0, 9, 42, 2, 181, 0, 15, 42, 16, 31, 188, 10, 181, 0, 18, 42]
abbrev dktX5_init_0 : List UInt8 := dkwX5_init_0 ++ dktX5_init_1
theorem dksX5_init_0 : cX5_init.data.toList.drop 0 = dktX5_init_0 := by decide +kernel
theorem dksX5_init_1 : cX5_init.data.toList.drop 23 = dktX5_init_1 := dk_seg dksX5_init_0 23 rfl rfl
theorem dX5_init_0 : decode cX5_init 0 = .ok (.aload_n 0, 1) := dk_42 (dk_at dksX5_init_0 0 rfl rfl)
theorem dX5_init_1 : decode cX5_init 1 = .ok (.invokespecial 3, 3) := dk_183 0 3 (dk_at dksX5_init_0 1 rfl rfl)
theorem dX5_init_4 : decode cX5_init 4 = .ok (.aload_n 0, 1) := dk_42 (dk_at dksX5_init_0 4 rfl rfl)
theorem dX5_init_5 : decode cX5_init 5 = .ok (.iconst (-1), 1) := dk_2 (dk_at dksX5_init_0 5 rfl rfl)
theorem dX5_init_6 : decode cX5_init 6 = .ok (.putfield 9, 3) := dk_181 0 9 (dk_at dksX5_init_0 6 rfl rfl)
theorem dX5_init_9 : decode cX5_init 9 = .ok (.aload_n 0, 1) := dk_42 (dk_at dksX5_init_0 9 rfl rfl)
theorem dX5_init_10 : decode cX5_init 10 = .ok (.iconst (-1), 1) := dk_2 (dk_at dksX5_init_0 10 rfl rfl)
theorem dX5_init_11 : decode cX5_init 11 = .ok (.putfield 15, 3) := dk_181 0 15 (dk_at dksX5_init_0 11 rfl rfl)
theorem dX5_init_14 : decode cX5_init 14 = .ok (.aload_n 0, 1) := dk_42 (dk_at dksX5_init_0 14 rfl rfl)
theorem dX5_init_15 : decode cX5_init 15 = .ok (.bipush 31, 2) := dk_16 31 (dk_at dksX5_init_0 15 rfl rfl)
theorem dX5_init_17 : decode cX5_init 17 = .ok (.newarray .int, 2) := dk_188_10 (dk_at dksX5_init_0 17 rfl rfl)
theorem dX5_init_19 : decode cX5_init 19 = .ok (.putfield 18, 3) := dk_181 0 18 (dk_at dksX5_init_0 19 rfl rfl)
theorem dX5_init_22 : decode cX5_init 22 = .ok (.aload_n 0, 1) := dk_42 (dk_at dksX5_init_0 22 rfl rfl)
theorem dX5_init_23 : decode cX5_init 23 = .ok (.bipush 16, 2) := dk_16 16 (dk_at dksX5_init_1 0 rfl rfl)
theorem dX5_init_25 : decode cX5_init 25 = .ok (.anewarray 22, 3) := dk_189 0 22 (dk_at dksX5_init_1 2 rfl rfl)
theorem dX5_init_28 : decode cX5_init 28 = .ok (.putfield 24, 3) := dk_181 0 24 (dk_at dksX5_init_1 5 rfl rfl)
theorem dX5_init_31 : decode cX5_init 31 = .ok (.aload_n 0, 1) := dk_42 (dk_at dksX5_init_1 8 rfl rfl)
theorem dX5_init_32 : decode cX5_init 32 = .ok (.new 28, 3) := dk_187 0 28 (dk_at dksX5_init_1 9 rfl rfl)
theorem dX5_init_35 : decode cX5_init 35 = .ok (.dup, 1) := dk_89 (dk_at dksX5_init_1 12 rfl rfl)
theorem dX5_init_36 : decode cX5_init 36 = .ok (.invokespecial 30, 3) := dk_183 0 30 (dk_at dksX5_init_1 13 rfl rfl)
theorem dX5_init_39 : decode cX5_init 39 = .ok (.putfield 31, 3) := dk_181 0 31 (dk_at dksX5_init_1 16 rfl rfl)
theorem dX5_init_42 : decode cX5_init 42 = .ok (.return_, 1) := dk_177 (dk_at dksX5_init_1 19 rfl rfl)
theorem q96 : (Jvm.Cond.initialized "KeygroveModel$Person") ∈ lw_all := lw_g (lw_at lw_m1 20 rfl) rfl
theorem q751 : (Jvm.Cond.selects "KeygroveModel$Person" ({ cls := "java/lang/Object", name := "getClass", desc := "()Ljava/lang/Class;" } : Jvm.MethodName) ({ cls := "java/lang/Object", name := "getClass", desc := "()Ljava/lang/Class;" } : Jvm.MethodName)) ∈ lw_all := lw_g (lw_at lw_m3 195 rfl) rfl
theorem q1283 : (Jvm.Cond.selects "KeygroveModel$Person" ({ cls := "java/lang/Object", name := "hashCode", desc := "()I" } : Jvm.MethodName) ({ cls := "java/lang/Object", name := "hashCode", desc := "()I" } : Jvm.MethodName)) ∈ lw_all := lw_g (lw_at lw_m6 7 rfl) rfl
theorem q1384 : (Jvm.Cond.selects "KeygroveModel$Person" ({ cls := "java/lang/Object", name := "equals", desc := "(Ljava/lang/Object;)Z" } : Jvm.MethodName) ({ cls := "java/lang/Object", name := "equals", desc := "(Ljava/lang/Object;)Z" } : Jvm.MethodName)) ∈ lw_all := lw_g (lw_at lw_m6 108 rfl) rfl
theorem q3108 : (Jvm.Cond.instantiable "KeygroveModel$Person" (7 : Nat)) ∈ lw_all := lw_g (lw_at lw_m13 152 rfl) rfl
theorem q3110 : (Jvm.Cond.instanceMethod ({ cls := "KeygroveModel$Person", name := "<init>", desc := "()V" } : Jvm.MethodName)) ∈ lw_all := lw_g (lw_at lw_m13 154 rfl) rfl
theorem q3111 : (Jvm.Cond.code ({ cls := "KeygroveModel$Person", name := "<init>", desc := "()V" } : Jvm.MethodName) prog_21_method_1_code (1 : Nat) (Option.none : Option Jvm.ClassFile.FieldType)) ∈ lw_all := lw_g (lw_at lw_m13 155 rfl) rfl
theorem q3112 : (Jvm.Cond.methodLink "KeygroveModel$Person" (3 : Nat) ({ cls := "java/lang/Object", name := "<init>", desc := "()V" } : Jvm.MethodName)) ∈ lw_all := lw_g (lw_at lw_m13 156 rfl) rfl
theorem q3113 : (Jvm.Cond.classLink "KeygroveModel$Person" (22 : Nat) "KeygroveModel$Chain") ∈ lw_all := lw_g (lw_at lw_m13 157 rfl) rfl
theorem q3115 : (Jvm.Cond.classLink "KeygroveModel$Person" (28 : Nat) "java/util/ArrayList") ∈ lw_all := lw_g (lw_at lw_m13 159 rfl) rfl
theorem q3116 : (Jvm.Cond.methodLink "KeygroveModel$Person" (30 : Nat) ({ cls := "java/util/ArrayList", name := "<init>", desc := "()V" } : Jvm.MethodName)) ∈ lw_all := lw_g (lw_at lw_m13 160 rfl) rfl
theorem q3117 : (Jvm.Cond.fieldLink "KeygroveModel$Person" (9 : Nat) "KeygroveModel$Person" "epoch" "I") ∈ lw_all := lw_g (lw_at lw_m13 161 rfl) rfl
theorem q3121 : (Jvm.Cond.fieldLink "KeygroveModel$Person" (15 : Nat) "KeygroveModel$Person" "renewal" "I") ∈ lw_all := lw_g (lw_at lw_m13 165 rfl) rfl
theorem q3123 : (Jvm.Cond.fieldLink "KeygroveModel$Person" (18 : Nat) "KeygroveModel$Person" "nodes" "[I") ∈ lw_all := lw_g (lw_at lw_m13 167 rfl) rfl
theorem q3125 : (Jvm.Cond.fieldLink "KeygroveModel$Person" (24 : Nat) "KeygroveModel$Person" "chains" "[LKeygroveModel$Chain;") ∈ lw_all := lw_g (lw_at lw_m13 169 rfl) rfl
theorem q3127 : (Jvm.Cond.fieldLink "KeygroveModel$Person" (31 : Nat) "KeygroveModel$Person" "ever" "Ljava/util/ArrayList;") ∈ lw_all := lw_g (lw_at lw_m13 171 rfl) rfl
theorem q3129 : (Jvm.Cond.lays "KeygroveModel$Person" "KeygroveModel$Person" "epoch" "I") ∈ lw_all := lw_g (lw_at lw_m13 173 rfl) rfl
theorem q3130 : (Jvm.Cond.soleField "KeygroveModel$Person" "epoch") ∈ lw_all := lw_g (lw_at lw_m13 174 rfl) rfl
theorem q3131 : (Jvm.Cond.lays "KeygroveModel$Person" "KeygroveModel$Person" "leaf" "I") ∈ lw_all := lw_g (lw_at lw_m13 175 rfl) rfl
theorem q3132 : (Jvm.Cond.soleField "KeygroveModel$Person" "leaf") ∈ lw_all := lw_g (lw_at lw_m13 176 rfl) rfl
theorem q3133 : (Jvm.Cond.lays "KeygroveModel$Person" "KeygroveModel$Person" "leafSecret" "I") ∈ lw_all := lw_g (lw_at lw_m13 177 rfl) rfl
theorem q3134 : (Jvm.Cond.soleField "KeygroveModel$Person" "leafSecret") ∈ lw_all := lw_g (lw_at lw_m13 178 rfl) rfl
theorem q3135 : (Jvm.Cond.lays "KeygroveModel$Person" "KeygroveModel$Person" "renewal" "I") ∈ lw_all := lw_g (lw_at lw_m13 179 rfl) rfl
theorem q3136 : (Jvm.Cond.soleField "KeygroveModel$Person" "renewal") ∈ lw_all := lw_g (lw_at lw_m13 180 rfl) rfl
theorem q3137 : (Jvm.Cond.laysFinal "KeygroveModel$Person" "KeygroveModel$Person" "nodes" "[I") ∈ lw_all := lw_g (lw_at lw_m13 181 rfl) rfl
theorem q3138 : (Jvm.Cond.soleField "KeygroveModel$Person" "nodes") ∈ lw_all := lw_g (lw_at lw_m13 182 rfl) rfl
theorem q3139 : (Jvm.Cond.laysFinal "KeygroveModel$Person" "KeygroveModel$Person" "chains" "[LKeygroveModel$Chain;") ∈ lw_all := lw_g (lw_at lw_m13 183 rfl) rfl
theorem q3140 : (Jvm.Cond.soleField "KeygroveModel$Person" "chains") ∈ lw_all := lw_g (lw_at lw_m13 184 rfl) rfl
theorem q3141 : (Jvm.Cond.laysFinal "KeygroveModel$Person" "KeygroveModel$Person" "ever" "Ljava/util/ArrayList;") ∈ lw_all := lw_g (lw_at lw_m13 185 rfl) rfl
theorem q3142 : (Jvm.Cond.soleField "KeygroveModel$Person" "ever") ∈ lw_all := lw_g (lw_at lw_m13 186 rfl) rfl
theorem q3143 : (Jvm.Cond.superclass "KeygroveModel$Person" "java/lang/Object") ∈ lw_all := lw_g (lw_at lw_m13 187 rfl) rfl
theorem q3687 : (Jvm.Cond.castable "KeygroveModel$Person" "java/lang/Object") ∈ lw_tbl := lw_at lw_m16 11 rfl
theorem in_X5 : ∀ w ∈ wsX50, w ∈ lw_all := lw_in wsX50 [3129, 3131, 3133, 3135, 3137, 3139, 3141] (by decide +kernel) (by decide +kernel)
/-! Keygrove$Origin -/
def RX6 : String := "Keygrove$Origin"
def TX6 : u_T := fun k => match k with
  | 0 => ("Keygrove$Origin", "value", "I", true)
  | 1 => ("Keygrove$Origin", "one", "I", true)
  | _ => ("Keygrove$Origin", "other", "I", true)
def tyX6 : Nat → FieldType := fun k => match k with
  | 0 => .int
  | 1 => .int
  | _ => .int
abbrev wsX60 : List Cond := u_ws RX6 TX6 3
theorem nmX6 : ∀ a, a < 3 → ∀ b, b < 3 → a ≠ b → (TX6 a).2.1 ≠ (TX6 b).2.1 := by decide +kernel
theorem tyX6_ok : ∀ k, k < 3 → parseFieldDescriptor (TX6 k).2.2.1 = some (tyX6 k) := by decide +kernel
abbrev cX6_init : ByteArray := prog_6_method_1_code
def yX6_init : MethodName := ⟨RX6, "<init>", "(III)V"⟩
def dkwX6_init_0 : List UInt8 := [42, 183, 0, 1, 42, 27, 181, 0, 7, 42, 28, 181, 0, 13, 42, 29, 181, 0, 16, 177]
abbrev dktX6_init_0 : List UInt8 := dkwX6_init_0 ++ []
theorem dksX6_init_0 : cX6_init.data.toList.drop 0 = dktX6_init_0 := by decide +kernel
theorem dX6_init_0 : decode cX6_init 0 = .ok (.aload_n 0, 1) := dk_42 (dk_at dksX6_init_0 0 rfl rfl)
theorem dX6_init_1 : decode cX6_init 1 = .ok (.invokespecial 1, 3) := dk_183 0 1 (dk_at dksX6_init_0 1 rfl rfl)
theorem dX6_init_4 : decode cX6_init 4 = .ok (.aload_n 0, 1) := dk_42 (dk_at dksX6_init_0 4 rfl rfl)
theorem dX6_init_5 : decode cX6_init 5 = .ok (.iload_n 1, 1) := dk_27 (dk_at dksX6_init_0 5 rfl rfl)
theorem dX6_init_6 : decode cX6_init 6 = .ok (.putfield 7, 3) := dk_181 0 7 (dk_at dksX6_init_0 6 rfl rfl)
theorem dX6_init_9 : decode cX6_init 9 = .ok (.aload_n 0, 1) := dk_42 (dk_at dksX6_init_0 9 rfl rfl)
theorem dX6_init_10 : decode cX6_init 10 = .ok (.iload_n 2, 1) := dk_28 (dk_at dksX6_init_0 10 rfl rfl)
theorem dX6_init_11 : decode cX6_init 11 = .ok (.putfield 13, 3) := dk_181 0 13 (dk_at dksX6_init_0 11 rfl rfl)
theorem dX6_init_14 : decode cX6_init 14 = .ok (.aload_n 0, 1) := dk_42 (dk_at dksX6_init_0 14 rfl rfl)
theorem dX6_init_15 : decode cX6_init 15 = .ok (.iload_n 3, 1) := dk_29 (dk_at dksX6_init_0 15 rfl rfl)
theorem dX6_init_16 : decode cX6_init 16 = .ok (.putfield 16, 3) := dk_181 0 16 (dk_at dksX6_init_0 16 rfl rfl)
theorem dX6_init_19 : decode cX6_init 19 = .ok (.return_, 1) := dk_177 (dk_at dksX6_init_0 19 rfl rfl)
theorem q102 : (Jvm.Cond.initialized "Keygrove$Origin") ∈ lw_all := lw_g (lw_at lw_m1 26 rfl) rfl
theorem q738 : (Jvm.Cond.selects "Keygrove$Origin" ({ cls := "java/lang/Object", name := "getClass", desc := "()Ljava/lang/Class;" } : Jvm.MethodName) ({ cls := "java/lang/Object", name := "getClass", desc := "()Ljava/lang/Class;" } : Jvm.MethodName)) ∈ lw_all := lw_g (lw_at lw_m3 182 rfl) rfl
theorem q1270 : (Jvm.Cond.selects "Keygrove$Origin" ({ cls := "java/lang/Object", name := "hashCode", desc := "()I" } : Jvm.MethodName) ({ cls := "java/lang/Object", name := "hashCode", desc := "()I" } : Jvm.MethodName)) ∈ lw_all := lw_g (lw_at lw_m5 234 rfl) rfl
theorem q1371 : (Jvm.Cond.selects "Keygrove$Origin" ({ cls := "java/lang/Object", name := "equals", desc := "(Ljava/lang/Object;)Z" } : Jvm.MethodName) ({ cls := "java/lang/Object", name := "equals", desc := "(Ljava/lang/Object;)Z" } : Jvm.MethodName)) ∈ lw_all := lw_g (lw_at lw_m6 95 rfl) rfl
theorem q1620 : (Jvm.Cond.instantiable "Keygrove$Origin" (3 : Nat)) ∈ lw_all := lw_g (lw_at lw_m7 104 rfl) rfl
theorem q1622 : (Jvm.Cond.instanceMethod ({ cls := "Keygrove$Origin", name := "<init>", desc := "(III)V" } : Jvm.MethodName)) ∈ lw_all := lw_g (lw_at lw_m7 106 rfl) rfl
theorem q1623 : (Jvm.Cond.code ({ cls := "Keygrove$Origin", name := "<init>", desc := "(III)V" } : Jvm.MethodName) prog_6_method_1_code (4 : Nat) (Option.none : Option Jvm.ClassFile.FieldType)) ∈ lw_all := lw_g (lw_at lw_m7 107 rfl) rfl
theorem q1624 : (Jvm.Cond.methodLink "Keygrove$Origin" (1 : Nat) ({ cls := "java/lang/Object", name := "<init>", desc := "()V" } : Jvm.MethodName)) ∈ lw_all := lw_g (lw_at lw_m7 108 rfl) rfl
theorem q1625 : (Jvm.Cond.fieldLink "Keygrove$Origin" (7 : Nat) "Keygrove$Origin" "value" "I") ∈ lw_all := lw_g (lw_at lw_m7 109 rfl) rfl
theorem q1627 : (Jvm.Cond.fieldLink "Keygrove$Origin" (13 : Nat) "Keygrove$Origin" "one" "I") ∈ lw_all := lw_g (lw_at lw_m7 111 rfl) rfl
theorem q1629 : (Jvm.Cond.fieldLink "Keygrove$Origin" (16 : Nat) "Keygrove$Origin" "other" "I") ∈ lw_all := lw_g (lw_at lw_m7 113 rfl) rfl
theorem q1631 : (Jvm.Cond.laysFinal "Keygrove$Origin" "Keygrove$Origin" "value" "I") ∈ lw_all := lw_g (lw_at lw_m7 115 rfl) rfl
theorem q1632 : (Jvm.Cond.soleField "Keygrove$Origin" "value") ∈ lw_all := lw_g (lw_at lw_m7 116 rfl) rfl
theorem q1633 : (Jvm.Cond.laysFinal "Keygrove$Origin" "Keygrove$Origin" "one" "I") ∈ lw_all := lw_g (lw_at lw_m7 117 rfl) rfl
theorem q1634 : (Jvm.Cond.soleField "Keygrove$Origin" "one") ∈ lw_all := lw_g (lw_at lw_m7 118 rfl) rfl
theorem q1635 : (Jvm.Cond.laysFinal "Keygrove$Origin" "Keygrove$Origin" "other" "I") ∈ lw_all := lw_g (lw_at lw_m7 119 rfl) rfl
theorem q1636 : (Jvm.Cond.soleField "Keygrove$Origin" "other") ∈ lw_all := lw_g (lw_at lw_m7 120 rfl) rfl
theorem q1637 : (Jvm.Cond.superclass "Keygrove$Origin" "java/lang/Object") ∈ lw_all := lw_g (lw_at lw_m7 121 rfl) rfl
theorem q3690 : (Jvm.Cond.castable "Keygrove$Origin" "java/lang/Object") ∈ lw_tbl := lw_at lw_m16 14 rfl
theorem in_X6 : ∀ w ∈ wsX60, w ∈ lw_all := lw_in wsX60 [1631, 1633, 1635] (by decide +kernel) (by decide +kernel)
/-! Keygrove$Pack -/
def RX7 : String := "Keygrove$Pack"
def TX7 : u_T := fun k => match k with
  | 0 => ("Keygrove$Pack", "person", "I", true)
  | 1 => ("Keygrove$Pack", "first", "I", true)
  | 2 => ("Keygrove$Pack", "second", "I", true)
  | 3 => ("Keygrove$Pack", "isUsed", "Z", false)
  | 4 => ("Keygrove$Pack", "added", "I", false)
  | _ => ("Keygrove$Pack", "isOpen", "Z", false)
def tyX7 : Nat → FieldType := fun k => match k with
  | 0 => .int
  | 1 => .int
  | 2 => .int
  | 3 => .boolean
  | 4 => .int
  | _ => .boolean
abbrev wsX70 : List Cond := u_ws RX7 TX7 6
theorem nmX7 : ∀ a, a < 6 → ∀ b, b < 6 → a ≠ b → (TX7 a).2.1 ≠ (TX7 b).2.1 := by decide +kernel
theorem tyX7_ok : ∀ k, k < 6 → parseFieldDescriptor (TX7 k).2.2.1 = some (tyX7 k) := by decide +kernel
abbrev cX7_init : ByteArray := prog_7_method_1_code
def yX7_init : MethodName := ⟨RX7, "<init>", "(III)V"⟩
def dkwX7_init_1 : List UInt8 := [177]
abbrev dktX7_init_1 : List UInt8 := dkwX7_init_1 ++ []
def dkwX7_init_0 : List UInt8 := [42, 183, 0, 3, 42, 2, 181, 0, 9, 42, 27, 181, 0, 15, 42, 28, 181, 0, 18, 42, 29, 181, 0, 21]
abbrev dktX7_init_0 : List UInt8 := dkwX7_init_0 ++ dktX7_init_1
theorem dksX7_init_0 : cX7_init.data.toList.drop 0 = dktX7_init_0 := by decide +kernel
theorem dksX7_init_1 : cX7_init.data.toList.drop 24 = dktX7_init_1 := dk_seg dksX7_init_0 24 rfl rfl
theorem dX7_init_0 : decode cX7_init 0 = .ok (.aload_n 0, 1) := dk_42 (dk_at dksX7_init_0 0 rfl rfl)
theorem dX7_init_1 : decode cX7_init 1 = .ok (.invokespecial 3, 3) := dk_183 0 3 (dk_at dksX7_init_0 1 rfl rfl)
theorem dX7_init_4 : decode cX7_init 4 = .ok (.aload_n 0, 1) := dk_42 (dk_at dksX7_init_0 4 rfl rfl)
theorem dX7_init_5 : decode cX7_init 5 = .ok (.iconst (-1), 1) := dk_2 (dk_at dksX7_init_0 5 rfl rfl)
theorem dX7_init_6 : decode cX7_init 6 = .ok (.putfield 9, 3) := dk_181 0 9 (dk_at dksX7_init_0 6 rfl rfl)
theorem dX7_init_9 : decode cX7_init 9 = .ok (.aload_n 0, 1) := dk_42 (dk_at dksX7_init_0 9 rfl rfl)
theorem dX7_init_10 : decode cX7_init 10 = .ok (.iload_n 1, 1) := dk_27 (dk_at dksX7_init_0 10 rfl rfl)
theorem dX7_init_11 : decode cX7_init 11 = .ok (.putfield 15, 3) := dk_181 0 15 (dk_at dksX7_init_0 11 rfl rfl)
theorem dX7_init_14 : decode cX7_init 14 = .ok (.aload_n 0, 1) := dk_42 (dk_at dksX7_init_0 14 rfl rfl)
theorem dX7_init_15 : decode cX7_init 15 = .ok (.iload_n 2, 1) := dk_28 (dk_at dksX7_init_0 15 rfl rfl)
theorem dX7_init_16 : decode cX7_init 16 = .ok (.putfield 18, 3) := dk_181 0 18 (dk_at dksX7_init_0 16 rfl rfl)
theorem dX7_init_19 : decode cX7_init 19 = .ok (.aload_n 0, 1) := dk_42 (dk_at dksX7_init_0 19 rfl rfl)
theorem dX7_init_20 : decode cX7_init 20 = .ok (.iload_n 3, 1) := dk_29 (dk_at dksX7_init_0 20 rfl rfl)
theorem dX7_init_21 : decode cX7_init 21 = .ok (.putfield 21, 3) := dk_181 0 21 (dk_at dksX7_init_0 21 rfl rfl)
theorem dX7_init_24 : decode cX7_init 24 = .ok (.return_, 1) := dk_177 (dk_at dksX7_init_1 0 rfl rfl)
theorem q103 : (Jvm.Cond.initialized "Keygrove$Pack") ∈ lw_all := lw_g (lw_at lw_m1 27 rfl) rfl
theorem q739 : (Jvm.Cond.selects "Keygrove$Pack" ({ cls := "java/lang/Object", name := "getClass", desc := "()Ljava/lang/Class;" } : Jvm.MethodName) ({ cls := "java/lang/Object", name := "getClass", desc := "()Ljava/lang/Class;" } : Jvm.MethodName)) ∈ lw_all := lw_g (lw_at lw_m3 183 rfl) rfl
theorem q1271 : (Jvm.Cond.selects "Keygrove$Pack" ({ cls := "java/lang/Object", name := "hashCode", desc := "()I" } : Jvm.MethodName) ({ cls := "java/lang/Object", name := "hashCode", desc := "()I" } : Jvm.MethodName)) ∈ lw_all := lw_g (lw_at lw_m5 235 rfl) rfl
theorem q1372 : (Jvm.Cond.selects "Keygrove$Pack" ({ cls := "java/lang/Object", name := "equals", desc := "(Ljava/lang/Object;)Z" } : Jvm.MethodName) ({ cls := "java/lang/Object", name := "equals", desc := "(Ljava/lang/Object;)Z" } : Jvm.MethodName)) ∈ lw_all := lw_g (lw_at lw_m6 96 rfl) rfl
theorem q1982 : (Jvm.Cond.instantiable "Keygrove$Pack" (6 : Nat)) ∈ lw_all := lw_g (lw_at lw_m8 226 rfl) rfl
theorem q1984 : (Jvm.Cond.instanceMethod ({ cls := "Keygrove$Pack", name := "<init>", desc := "(III)V" } : Jvm.MethodName)) ∈ lw_all := lw_g (lw_at lw_m8 228 rfl) rfl
theorem q1985 : (Jvm.Cond.code ({ cls := "Keygrove$Pack", name := "<init>", desc := "(III)V" } : Jvm.MethodName) prog_7_method_1_code (4 : Nat) (Option.none : Option Jvm.ClassFile.FieldType)) ∈ lw_all := lw_g (lw_at lw_m8 229 rfl) rfl
theorem q1986 : (Jvm.Cond.methodLink "Keygrove$Pack" (3 : Nat) ({ cls := "java/lang/Object", name := "<init>", desc := "()V" } : Jvm.MethodName)) ∈ lw_all := lw_g (lw_at lw_m8 230 rfl) rfl
theorem q1987 : (Jvm.Cond.fieldLink "Keygrove$Pack" (15 : Nat) "Keygrove$Pack" "person" "I") ∈ lw_all := lw_g (lw_at lw_m8 231 rfl) rfl
theorem q1989 : (Jvm.Cond.fieldLink "Keygrove$Pack" (18 : Nat) "Keygrove$Pack" "first" "I") ∈ lw_all := lw_g (lw_at lw_m8 233 rfl) rfl
theorem q1992 : (Jvm.Cond.fieldLink "Keygrove$Pack" (21 : Nat) "Keygrove$Pack" "second" "I") ∈ lw_all := lw_g (lw_at lw_m8 236 rfl) rfl
theorem q1996 : (Jvm.Cond.fieldLink "Keygrove$Pack" (9 : Nat) "Keygrove$Pack" "added" "I") ∈ lw_all := lw_g (lw_at lw_m9 0 rfl) rfl
theorem q1999 : (Jvm.Cond.laysFinal "Keygrove$Pack" "Keygrove$Pack" "person" "I") ∈ lw_all := lw_g (lw_at lw_m9 3 rfl) rfl
theorem q2000 : (Jvm.Cond.soleField "Keygrove$Pack" "person") ∈ lw_all := lw_g (lw_at lw_m9 4 rfl) rfl
theorem q2001 : (Jvm.Cond.laysFinal "Keygrove$Pack" "Keygrove$Pack" "first" "I") ∈ lw_all := lw_g (lw_at lw_m9 5 rfl) rfl
theorem q2002 : (Jvm.Cond.soleField "Keygrove$Pack" "first") ∈ lw_all := lw_g (lw_at lw_m9 6 rfl) rfl
theorem q2003 : (Jvm.Cond.laysFinal "Keygrove$Pack" "Keygrove$Pack" "second" "I") ∈ lw_all := lw_g (lw_at lw_m9 7 rfl) rfl
theorem q2004 : (Jvm.Cond.soleField "Keygrove$Pack" "second") ∈ lw_all := lw_g (lw_at lw_m9 8 rfl) rfl
theorem q2005 : (Jvm.Cond.lays "Keygrove$Pack" "Keygrove$Pack" "isUsed" "Z") ∈ lw_all := lw_g (lw_at lw_m9 9 rfl) rfl
theorem q2006 : (Jvm.Cond.soleField "Keygrove$Pack" "isUsed") ∈ lw_all := lw_g (lw_at lw_m9 10 rfl) rfl
theorem q2007 : (Jvm.Cond.lays "Keygrove$Pack" "Keygrove$Pack" "added" "I") ∈ lw_all := lw_g (lw_at lw_m9 11 rfl) rfl
theorem q2008 : (Jvm.Cond.soleField "Keygrove$Pack" "added") ∈ lw_all := lw_g (lw_at lw_m9 12 rfl) rfl
theorem q2009 : (Jvm.Cond.lays "Keygrove$Pack" "Keygrove$Pack" "isOpen" "Z") ∈ lw_all := lw_g (lw_at lw_m9 13 rfl) rfl
theorem q2010 : (Jvm.Cond.soleField "Keygrove$Pack" "isOpen") ∈ lw_all := lw_g (lw_at lw_m9 14 rfl) rfl
theorem q2011 : (Jvm.Cond.superclass "Keygrove$Pack" "java/lang/Object") ∈ lw_all := lw_g (lw_at lw_m9 15 rfl) rfl
theorem q3691 : (Jvm.Cond.castable "Keygrove$Pack" "java/lang/Object") ∈ lw_tbl := lw_at lw_m16 15 rfl
theorem in_X7 : ∀ w ∈ wsX70, w ∈ lw_all := lw_in wsX70 [1999, 2001, 2003, 2005, 2007, 2009] (by decide +kernel) (by decide +kernel)
/-! KeygroveModel$Secret -/
def RX8 : String := "KeygroveModel$Secret"
def TX8 : u_T := fun k => match k with
  | 0 => ("KeygroveModel$Secret", "value", "I", true)
  | 1 => ("KeygroveModel$Secret", "one", "I", true)
  | 2 => ("KeygroveModel$Secret", "other", "I", true)
  | _ => ("KeygroveModel$Secret", "label", "I", true)
def tyX8 : Nat → FieldType := fun k => match k with
  | 0 => .int
  | 1 => .int
  | 2 => .int
  | _ => .int
abbrev wsX80 : List Cond := u_ws RX8 TX8 4
theorem nmX8 : ∀ a, a < 4 → ∀ b, b < 4 → a ≠ b → (TX8 a).2.1 ≠ (TX8 b).2.1 := by decide +kernel
theorem tyX8_ok : ∀ k, k < 4 → parseFieldDescriptor (TX8 k).2.2.1 = some (tyX8 k) := by decide +kernel
abbrev cX8_init : ByteArray := prog_23_method_1_code
def yX8_init : MethodName := ⟨RX8, "<init>", "(IIII)V"⟩
def dkwX8_init_1 : List UInt8 := [181, 0, 19, 177]
abbrev dktX8_init_1 : List UInt8 := dkwX8_init_1 ++ []
def dkwX8_init_0 : List UInt8 := [42, 183, 0, 1, 42, 27, 181, 0, 7, 42, 28, 181, 0, 13, 42, 29, 181, 0, 16, 42, 21, 4]
abbrev dktX8_init_0 : List UInt8 := dkwX8_init_0 ++ dktX8_init_1
theorem dksX8_init_0 : cX8_init.data.toList.drop 0 = dktX8_init_0 := by decide +kernel
theorem dksX8_init_1 : cX8_init.data.toList.drop 22 = dktX8_init_1 := dk_seg dksX8_init_0 22 rfl rfl
theorem dX8_init_0 : decode cX8_init 0 = .ok (.aload_n 0, 1) := dk_42 (dk_at dksX8_init_0 0 rfl rfl)
theorem dX8_init_1 : decode cX8_init 1 = .ok (.invokespecial 1, 3) := dk_183 0 1 (dk_at dksX8_init_0 1 rfl rfl)
theorem dX8_init_4 : decode cX8_init 4 = .ok (.aload_n 0, 1) := dk_42 (dk_at dksX8_init_0 4 rfl rfl)
theorem dX8_init_5 : decode cX8_init 5 = .ok (.iload_n 1, 1) := dk_27 (dk_at dksX8_init_0 5 rfl rfl)
theorem dX8_init_6 : decode cX8_init 6 = .ok (.putfield 7, 3) := dk_181 0 7 (dk_at dksX8_init_0 6 rfl rfl)
theorem dX8_init_9 : decode cX8_init 9 = .ok (.aload_n 0, 1) := dk_42 (dk_at dksX8_init_0 9 rfl rfl)
theorem dX8_init_10 : decode cX8_init 10 = .ok (.iload_n 2, 1) := dk_28 (dk_at dksX8_init_0 10 rfl rfl)
theorem dX8_init_11 : decode cX8_init 11 = .ok (.putfield 13, 3) := dk_181 0 13 (dk_at dksX8_init_0 11 rfl rfl)
theorem dX8_init_14 : decode cX8_init 14 = .ok (.aload_n 0, 1) := dk_42 (dk_at dksX8_init_0 14 rfl rfl)
theorem dX8_init_15 : decode cX8_init 15 = .ok (.iload_n 3, 1) := dk_29 (dk_at dksX8_init_0 15 rfl rfl)
theorem dX8_init_16 : decode cX8_init 16 = .ok (.putfield 16, 3) := dk_181 0 16 (dk_at dksX8_init_0 16 rfl rfl)
theorem dX8_init_19 : decode cX8_init 19 = .ok (.aload_n 0, 1) := dk_42 (dk_at dksX8_init_0 19 rfl rfl)
theorem dX8_init_20 : decode cX8_init 20 = .ok (.iload 4, 2) := dk_21 4 (dk_at dksX8_init_0 20 rfl rfl)
theorem dX8_init_22 : decode cX8_init 22 = .ok (.putfield 19, 3) := dk_181 0 19 (dk_at dksX8_init_1 0 rfl rfl)
theorem dX8_init_25 : decode cX8_init 25 = .ok (.return_, 1) := dk_177 (dk_at dksX8_init_1 3 rfl rfl)
theorem q120 : (Jvm.Cond.initialized "KeygroveModel$Secret") ∈ lw_all := lw_g (lw_at lw_m1 44 rfl) rfl
theorem q753 : (Jvm.Cond.selects "KeygroveModel$Secret" ({ cls := "java/lang/Object", name := "getClass", desc := "()Ljava/lang/Class;" } : Jvm.MethodName) ({ cls := "java/lang/Object", name := "getClass", desc := "()Ljava/lang/Class;" } : Jvm.MethodName)) ∈ lw_all := lw_g (lw_at lw_m3 197 rfl) rfl
theorem q1285 : (Jvm.Cond.selects "KeygroveModel$Secret" ({ cls := "java/lang/Object", name := "hashCode", desc := "()I" } : Jvm.MethodName) ({ cls := "java/lang/Object", name := "hashCode", desc := "()I" } : Jvm.MethodName)) ∈ lw_all := lw_g (lw_at lw_m6 9 rfl) rfl
theorem q1386 : (Jvm.Cond.selects "KeygroveModel$Secret" ({ cls := "java/lang/Object", name := "equals", desc := "(Ljava/lang/Object;)Z" } : Jvm.MethodName) ({ cls := "java/lang/Object", name := "equals", desc := "(Ljava/lang/Object;)Z" } : Jvm.MethodName)) ∈ lw_all := lw_g (lw_at lw_m6 110 rfl) rfl
theorem q3176 : (Jvm.Cond.instantiable "KeygroveModel$Secret" (4 : Nat)) ∈ lw_all := lw_g (lw_at lw_m13 220 rfl) rfl
theorem q3178 : (Jvm.Cond.instanceMethod ({ cls := "KeygroveModel$Secret", name := "<init>", desc := "(IIII)V" } : Jvm.MethodName)) ∈ lw_all := lw_g (lw_at lw_m13 222 rfl) rfl
theorem q3179 : (Jvm.Cond.code ({ cls := "KeygroveModel$Secret", name := "<init>", desc := "(IIII)V" } : Jvm.MethodName) prog_23_method_1_code (5 : Nat) (Option.none : Option Jvm.ClassFile.FieldType)) ∈ lw_all := lw_g (lw_at lw_m13 223 rfl) rfl
theorem q3180 : (Jvm.Cond.methodLink "KeygroveModel$Secret" (1 : Nat) ({ cls := "java/lang/Object", name := "<init>", desc := "()V" } : Jvm.MethodName)) ∈ lw_all := lw_g (lw_at lw_m13 224 rfl) rfl
theorem q3181 : (Jvm.Cond.fieldLink "KeygroveModel$Secret" (7 : Nat) "KeygroveModel$Secret" "value" "I") ∈ lw_all := lw_g (lw_at lw_m13 225 rfl) rfl
theorem q3183 : (Jvm.Cond.fieldLink "KeygroveModel$Secret" (13 : Nat) "KeygroveModel$Secret" "one" "I") ∈ lw_all := lw_g (lw_at lw_m13 227 rfl) rfl
theorem q3185 : (Jvm.Cond.fieldLink "KeygroveModel$Secret" (16 : Nat) "KeygroveModel$Secret" "other" "I") ∈ lw_all := lw_g (lw_at lw_m13 229 rfl) rfl
theorem q3187 : (Jvm.Cond.fieldLink "KeygroveModel$Secret" (19 : Nat) "KeygroveModel$Secret" "label" "I") ∈ lw_all := lw_g (lw_at lw_m13 231 rfl) rfl
theorem q3189 : (Jvm.Cond.laysFinal "KeygroveModel$Secret" "KeygroveModel$Secret" "value" "I") ∈ lw_all := lw_g (lw_at lw_m13 233 rfl) rfl
theorem q3190 : (Jvm.Cond.soleField "KeygroveModel$Secret" "value") ∈ lw_all := lw_g (lw_at lw_m13 234 rfl) rfl
theorem q3191 : (Jvm.Cond.laysFinal "KeygroveModel$Secret" "KeygroveModel$Secret" "one" "I") ∈ lw_all := lw_g (lw_at lw_m13 235 rfl) rfl
theorem q3192 : (Jvm.Cond.soleField "KeygroveModel$Secret" "one") ∈ lw_all := lw_g (lw_at lw_m13 236 rfl) rfl
theorem q3193 : (Jvm.Cond.laysFinal "KeygroveModel$Secret" "KeygroveModel$Secret" "other" "I") ∈ lw_all := lw_g (lw_at lw_m13 237 rfl) rfl
theorem q3194 : (Jvm.Cond.soleField "KeygroveModel$Secret" "other") ∈ lw_all := lw_g (lw_at lw_m13 238 rfl) rfl
theorem q3195 : (Jvm.Cond.laysFinal "KeygroveModel$Secret" "KeygroveModel$Secret" "label" "I") ∈ lw_all := lw_g (lw_at lw_m13 239 rfl) rfl
theorem q3196 : (Jvm.Cond.soleField "KeygroveModel$Secret" "label") ∈ lw_all := lw_g (lw_at lw_m14 0 rfl) rfl
theorem q3197 : (Jvm.Cond.superclass "KeygroveModel$Secret" "java/lang/Object") ∈ lw_all := lw_g (lw_at lw_m14 1 rfl) rfl
theorem q3699 : (Jvm.Cond.castable "KeygroveModel$Secret" "java/lang/Object") ∈ lw_tbl := lw_at lw_m16 23 rfl
theorem in_X8 : ∀ w ∈ wsX80, w ∈ lw_all := lw_in wsX80 [3189, 3191, 3193, 3195] (by decide +kernel) (by decide +kernel)
/-! KeygroveModel$Pack -/
def RX9 : String := "KeygroveModel$Pack"
def TX9 : u_T := fun k => match k with
  | 0 => ("KeygroveModel$Pack", "person", "I", true)
  | 1 => ("KeygroveModel$Pack", "first", "I", true)
  | 2 => ("KeygroveModel$Pack", "second", "I", true)
  | 3 => ("KeygroveModel$Pack", "isUsed", "Z", false)
  | _ => ("KeygroveModel$Pack", "isGone", "Z", false)
def tyX9 : Nat → FieldType := fun k => match k with
  | 0 => .int
  | 1 => .int
  | 2 => .int
  | 3 => .boolean
  | _ => .boolean
abbrev wsX90 : List Cond := u_ws RX9 TX9 5
theorem nmX9 : ∀ a, a < 5 → ∀ b, b < 5 → a ≠ b → (TX9 a).2.1 ≠ (TX9 b).2.1 := by decide +kernel
theorem tyX9_ok : ∀ k, k < 5 → parseFieldDescriptor (TX9 k).2.2.1 = some (tyX9 k) := by decide +kernel
abbrev cX9_init : ByteArray := prog_20_method_1_code
def yX9_init : MethodName := ⟨RX9, "<init>", "(III)V"⟩
def dkwX9_init_0 : List UInt8 := [42, 183, 0, 1, 42, 27, 181, 0, 7, 42, 28, 181, 0, 13, 42, 29, 181, 0, 16, 177]
abbrev dktX9_init_0 : List UInt8 := dkwX9_init_0 ++ []
theorem dksX9_init_0 : cX9_init.data.toList.drop 0 = dktX9_init_0 := by decide +kernel
theorem dX9_init_0 : decode cX9_init 0 = .ok (.aload_n 0, 1) := dk_42 (dk_at dksX9_init_0 0 rfl rfl)
theorem dX9_init_1 : decode cX9_init 1 = .ok (.invokespecial 1, 3) := dk_183 0 1 (dk_at dksX9_init_0 1 rfl rfl)
theorem dX9_init_4 : decode cX9_init 4 = .ok (.aload_n 0, 1) := dk_42 (dk_at dksX9_init_0 4 rfl rfl)
theorem dX9_init_5 : decode cX9_init 5 = .ok (.iload_n 1, 1) := dk_27 (dk_at dksX9_init_0 5 rfl rfl)
theorem dX9_init_6 : decode cX9_init 6 = .ok (.putfield 7, 3) := dk_181 0 7 (dk_at dksX9_init_0 6 rfl rfl)
theorem dX9_init_9 : decode cX9_init 9 = .ok (.aload_n 0, 1) := dk_42 (dk_at dksX9_init_0 9 rfl rfl)
theorem dX9_init_10 : decode cX9_init 10 = .ok (.iload_n 2, 1) := dk_28 (dk_at dksX9_init_0 10 rfl rfl)
theorem dX9_init_11 : decode cX9_init 11 = .ok (.putfield 13, 3) := dk_181 0 13 (dk_at dksX9_init_0 11 rfl rfl)
theorem dX9_init_14 : decode cX9_init 14 = .ok (.aload_n 0, 1) := dk_42 (dk_at dksX9_init_0 14 rfl rfl)
theorem dX9_init_15 : decode cX9_init 15 = .ok (.iload_n 3, 1) := dk_29 (dk_at dksX9_init_0 15 rfl rfl)
theorem dX9_init_16 : decode cX9_init 16 = .ok (.putfield 16, 3) := dk_181 0 16 (dk_at dksX9_init_0 16 rfl rfl)
theorem dX9_init_19 : decode cX9_init 19 = .ok (.return_, 1) := dk_177 (dk_at dksX9_init_0 19 rfl rfl)
theorem q121 : (Jvm.Cond.initialized "KeygroveModel$Pack") ∈ lw_all := lw_g (lw_at lw_m1 45 rfl) rfl
theorem q750 : (Jvm.Cond.selects "KeygroveModel$Pack" ({ cls := "java/lang/Object", name := "getClass", desc := "()Ljava/lang/Class;" } : Jvm.MethodName) ({ cls := "java/lang/Object", name := "getClass", desc := "()Ljava/lang/Class;" } : Jvm.MethodName)) ∈ lw_all := lw_g (lw_at lw_m3 194 rfl) rfl
theorem q1282 : (Jvm.Cond.selects "KeygroveModel$Pack" ({ cls := "java/lang/Object", name := "hashCode", desc := "()I" } : Jvm.MethodName) ({ cls := "java/lang/Object", name := "hashCode", desc := "()I" } : Jvm.MethodName)) ∈ lw_all := lw_g (lw_at lw_m6 6 rfl) rfl
theorem q1383 : (Jvm.Cond.selects "KeygroveModel$Pack" ({ cls := "java/lang/Object", name := "equals", desc := "(Ljava/lang/Object;)Z" } : Jvm.MethodName) ({ cls := "java/lang/Object", name := "equals", desc := "(Ljava/lang/Object;)Z" } : Jvm.MethodName)) ∈ lw_all := lw_g (lw_at lw_m6 107 rfl) rfl
theorem q3199 : (Jvm.Cond.instantiable "KeygroveModel$Pack" (5 : Nat)) ∈ lw_all := lw_g (lw_at lw_m14 3 rfl) rfl
theorem q3201 : (Jvm.Cond.instanceMethod ({ cls := "KeygroveModel$Pack", name := "<init>", desc := "(III)V" } : Jvm.MethodName)) ∈ lw_all := lw_g (lw_at lw_m14 5 rfl) rfl
theorem q3202 : (Jvm.Cond.code ({ cls := "KeygroveModel$Pack", name := "<init>", desc := "(III)V" } : Jvm.MethodName) prog_20_method_1_code (4 : Nat) (Option.none : Option Jvm.ClassFile.FieldType)) ∈ lw_all := lw_g (lw_at lw_m14 6 rfl) rfl
theorem q3203 : (Jvm.Cond.methodLink "KeygroveModel$Pack" (1 : Nat) ({ cls := "java/lang/Object", name := "<init>", desc := "()V" } : Jvm.MethodName)) ∈ lw_all := lw_g (lw_at lw_m14 7 rfl) rfl
theorem q3204 : (Jvm.Cond.fieldLink "KeygroveModel$Pack" (7 : Nat) "KeygroveModel$Pack" "person" "I") ∈ lw_all := lw_g (lw_at lw_m14 8 rfl) rfl
theorem q3206 : (Jvm.Cond.fieldLink "KeygroveModel$Pack" (13 : Nat) "KeygroveModel$Pack" "first" "I") ∈ lw_all := lw_g (lw_at lw_m14 10 rfl) rfl
theorem q3208 : (Jvm.Cond.fieldLink "KeygroveModel$Pack" (16 : Nat) "KeygroveModel$Pack" "second" "I") ∈ lw_all := lw_g (lw_at lw_m14 12 rfl) rfl
theorem q3212 : (Jvm.Cond.laysFinal "KeygroveModel$Pack" "KeygroveModel$Pack" "person" "I") ∈ lw_all := lw_g (lw_at lw_m14 16 rfl) rfl
theorem q3213 : (Jvm.Cond.soleField "KeygroveModel$Pack" "person") ∈ lw_all := lw_g (lw_at lw_m14 17 rfl) rfl
theorem q3214 : (Jvm.Cond.laysFinal "KeygroveModel$Pack" "KeygroveModel$Pack" "first" "I") ∈ lw_all := lw_g (lw_at lw_m14 18 rfl) rfl
theorem q3215 : (Jvm.Cond.soleField "KeygroveModel$Pack" "first") ∈ lw_all := lw_g (lw_at lw_m14 19 rfl) rfl
theorem q3216 : (Jvm.Cond.laysFinal "KeygroveModel$Pack" "KeygroveModel$Pack" "second" "I") ∈ lw_all := lw_g (lw_at lw_m14 20 rfl) rfl
theorem q3217 : (Jvm.Cond.soleField "KeygroveModel$Pack" "second") ∈ lw_all := lw_g (lw_at lw_m14 21 rfl) rfl
theorem q3218 : (Jvm.Cond.lays "KeygroveModel$Pack" "KeygroveModel$Pack" "isUsed" "Z") ∈ lw_all := lw_g (lw_at lw_m14 22 rfl) rfl
theorem q3219 : (Jvm.Cond.soleField "KeygroveModel$Pack" "isUsed") ∈ lw_all := lw_g (lw_at lw_m14 23 rfl) rfl
theorem q3220 : (Jvm.Cond.lays "KeygroveModel$Pack" "KeygroveModel$Pack" "isGone" "Z") ∈ lw_all := lw_g (lw_at lw_m14 24 rfl) rfl
theorem q3221 : (Jvm.Cond.soleField "KeygroveModel$Pack" "isGone") ∈ lw_all := lw_g (lw_at lw_m14 25 rfl) rfl
theorem q3222 : (Jvm.Cond.superclass "KeygroveModel$Pack" "java/lang/Object") ∈ lw_all := lw_g (lw_at lw_m14 26 rfl) rfl
theorem q3700 : (Jvm.Cond.castable "KeygroveModel$Pack" "java/lang/Object") ∈ lw_tbl := lw_at lw_m16 24 rfl
theorem in_X9 : ∀ w ∈ wsX90, w ∈ lw_all := lw_in wsX90 [3212, 3214, 3216, 3218, 3220] (by decide +kernel) (by decide +kernel)
