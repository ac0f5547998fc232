set_option maxRecDepth 100000
/-! java/util/AbstractCollection -/
def RJ0 : String := "java/util/AbstractCollection"
abbrev cJ0_init : ByteArray := prog_54_method_1_code
def yJ0_init : MethodName := ⟨RJ0, "<init>", "()V"⟩
theorem dJ0_init_0 : decode cJ0_init 0 = .ok (.aload_n 0, 1) := by decide +kernel
theorem dJ0_init_1 : decode cJ0_init 1 = .ok (.invokespecial 1, 3) := by decide +kernel
theorem dJ0_init_4 : decode cJ0_init 4 = .ok (.return_, 1) := by decide +kernel
theorem q79 : (Jvm.Cond.initialized "java/util/AbstractCollection") ∈ lw_all := lw_g (lw_at lw_m1 3 rfl) rfl
theorem q174 : (Jvm.Cond.instanceMethod ({ cls := "java/util/AbstractCollection", name := "<init>", desc := "()V" } : Jvm.MethodName)) ∈ lw_all := lw_g (lw_at lw_m1 98 rfl) rfl
theorem q175 : (Jvm.Cond.code ({ cls := "java/util/AbstractCollection", name := "<init>", desc := "()V" } : Jvm.MethodName) prog_54_method_1_code (1 : Nat) (Option.none : Option Jvm.ClassFile.FieldType)) ∈ lw_all := lw_g (lw_at lw_m1 99 rfl) rfl
theorem q176 : (Jvm.Cond.methodLink "java/util/AbstractCollection" (1 : Nat) ({ cls := "java/lang/Object", name := "<init>", desc := "()V" } : Jvm.MethodName)) ∈ lw_all := lw_g (lw_at lw_m1 100 rfl) rfl
/-! java/util/AbstractList -/
def RJ1 : String := "java/util/AbstractList"
abbrev cJ1_init : ByteArray := prog_55_method_1_code
def yJ1_init : MethodName := ⟨RJ1, "<init>", "()V"⟩
def dkwJ1_init_0 : List UInt8 := [42, 183, 0, 1, 42, 3, 181, 0, 7, 177]
abbrev dktJ1_init_0 : List UInt8 := dkwJ1_init_0 ++ []
theorem dksJ1_init_0 : cJ1_init.data.toList.drop 0 = dktJ1_init_0 := by decide +kernel
theorem dJ1_init_0 : decode cJ1_init 0 = .ok (.aload_n 0, 1) := dk_42 (dk_at dksJ1_init_0 0 rfl rfl)
theorem dJ1_init_1 : decode cJ1_init 1 = .ok (.invokespecial 1, 3) := dk_183 0 1 (dk_at dksJ1_init_0 1 rfl rfl)
theorem dJ1_init_4 : decode cJ1_init 4 = .ok (.aload_n 0, 1) := dk_42 (dk_at dksJ1_init_0 4 rfl rfl)
theorem dJ1_init_5 : decode cJ1_init 5 = .ok (.iconst 0, 1) := dk_3 (dk_at dksJ1_init_0 5 rfl rfl)
theorem dJ1_init_6 : decode cJ1_init 6 = .ok (.putfield 7, 3) := dk_181 0 7 (dk_at dksJ1_init_0 6 rfl rfl)
theorem dJ1_init_9 : decode cJ1_init 9 = .ok (.return_, 1) := dk_177 (dk_at dksJ1_init_0 9 rfl rfl)
theorem q80 : (Jvm.Cond.initialized "java/util/AbstractList") ∈ lw_all := lw_g (lw_at lw_m1 4 rfl) rfl
theorem q171 : (Jvm.Cond.instanceMethod ({ cls := "java/util/AbstractList", name := "<init>", desc := "()V" } : Jvm.MethodName)) ∈ lw_all := lw_g (lw_at lw_m1 95 rfl) rfl
theorem q172 : (Jvm.Cond.code ({ cls := "java/util/AbstractList", name := "<init>", desc := "()V" } : Jvm.MethodName) prog_55_method_1_code (1 : Nat) (Option.none : Option Jvm.ClassFile.FieldType)) ∈ lw_all := lw_g (lw_at lw_m1 96 rfl) rfl
theorem q173 : (Jvm.Cond.methodLink "java/util/AbstractList" (1 : Nat) ({ cls := "java/util/AbstractCollection", name := "<init>", desc := "()V" } : Jvm.MethodName)) ∈ lw_all := lw_g (lw_at lw_m1 97 rfl) rfl
theorem q183 : (Jvm.Cond.fieldLink "java/util/AbstractList" (7 : Nat) "java/util/AbstractList" "modCount" "I") ∈ lw_all := lw_g (lw_at lw_m1 107 rfl) rfl
theorem q192 : (Jvm.Cond.soleField "java/util/AbstractList" "modCount") ∈ lw_all := lw_g (lw_at lw_m1 116 rfl) rfl
/-! java/util/ArrayList -/
def RJ2 : String := "java/util/ArrayList"
def TJ2 : u_T := fun k => match k with
  | 0 => ("java/util/AbstractList", "modCount", "I", false)
  | 1 => ("java/util/ArrayList", "elementData", "[Ljava/lang/Object;", false)
  | _ => ("java/util/ArrayList", "size", "I", false)
def tyJ2 : Nat → FieldType := fun k => match k with
  | 0 => .int
  | 1 => .array (.object "java/lang/Object")
  | _ => .int
abbrev wsJ20 : List Cond := u_ws RJ2 TJ2 3
theorem nmJ2 : ∀ a, a < 3 → ∀ b, b < 3 → a ≠ b → (TJ2 a).2.1 ≠ (TJ2 b).2.1 := by decide +kernel
theorem tyJ2_ok : ∀ k, k < 3 → parseFieldDescriptor (TJ2 k).2.2.1 = some (tyJ2 k) := by decide +kernel
abbrev cJ2_init : ByteArray := prog_58_method_2_code
def yJ2_init : MethodName := ⟨RJ2, "<init>", "()V"⟩
def dkwJ2_init_0 : List UInt8 := [42, 183, 0, 1, 42, 178, 0, 39, 181, 0, 9, 177]
abbrev dktJ2_init_0 : List UInt8 := dkwJ2_init_0 ++ []
theorem dksJ2_init_0 : cJ2_init.data.toList.drop 0 = dktJ2_init_0 := by decide +kernel
theorem dJ2_init_0 : decode cJ2_init 0 = .ok (.aload_n 0, 1) := dk_42 (dk_at dksJ2_init_0 0 rfl rfl)
theorem dJ2_init_1 : decode cJ2_init 1 = .ok (.invokespecial 1, 3) := dk_183 0 1 (dk_at dksJ2_init_0 1 rfl rfl)
theorem dJ2_init_4 : decode cJ2_init 4 = .ok (.aload_n 0, 1) := dk_42 (dk_at dksJ2_init_0 4 rfl rfl)
theorem dJ2_init_5 : decode cJ2_init 5 = .ok (.getstatic 39, 3) := dk_178 0 39 (dk_at dksJ2_init_0 5 rfl rfl)
theorem dJ2_init_8 : decode cJ2_init 8 = .ok (.putfield 9, 3) := dk_181 0 9 (dk_at dksJ2_init_0 8 rfl rfl)
theorem dJ2_init_11 : decode cJ2_init 11 = .ok (.return_, 1) := dk_177 (dk_at dksJ2_init_0 11 rfl rfl)
abbrev cJ2_size : ByteArray := prog_58_method_8_code
def yJ2_size : MethodName := ⟨RJ2, "size", "()I"⟩
theorem dJ2_size_0 : decode cJ2_size 0 = .ok (.aload_n 0, 1) := by decide +kernel
theorem dJ2_size_1 : decode cJ2_size 1 = .ok (.getfield 48, 3) := by decide +kernel
theorem dJ2_size_4 : decode cJ2_size 4 = .ok (.ireturn, 1) := by decide +kernel
abbrev cJ2_add : ByteArray := prog_58_method_25_code
def yJ2_add : MethodName := ⟨RJ2, "add", "(Ljava/lang/Object;)Z"⟩
def dkwJ2_add_1 : List UInt8 := [172]
abbrev dktJ2_add_1 : List UInt8 := dkwJ2_add_1 ++ []
def dkwJ2_add_0 : List UInt8 := [42, 89, 180, 0, 63, 4, 96, 181, 0, 63, 42, 43, 42, 180, 0, 9, 42, 180, 0, 48, 182, 0, 131, 4]
abbrev dktJ2_add_0 : List UInt8 := dkwJ2_add_0 ++ dktJ2_add_1
theorem dksJ2_add_0 : cJ2_add.data.toList.drop 0 = dktJ2_add_0 := by decide +kernel
theorem dksJ2_add_1 : cJ2_add.data.toList.drop 24 = dktJ2_add_1 := dk_seg dksJ2_add_0 24 rfl rfl
theorem dJ2_add_0 : decode cJ2_add 0 = .ok (.aload_n 0, 1) := dk_42 (dk_at dksJ2_add_0 0 rfl rfl)
theorem dJ2_add_1 : decode cJ2_add 1 = .ok (.dup, 1) := dk_89 (dk_at dksJ2_add_0 1 rfl rfl)
theorem dJ2_add_2 : decode cJ2_add 2 = .ok (.getfield 63, 3) := dk_180 0 63 (dk_at dksJ2_add_0 2 rfl rfl)
theorem dJ2_add_5 : decode cJ2_add 5 = .ok (.iconst 1, 1) := dk_4 (dk_at dksJ2_add_0 5 rfl rfl)
theorem dJ2_add_6 : decode cJ2_add 6 = .ok (.iadd, 1) := dk_96 (dk_at dksJ2_add_0 6 rfl rfl)
theorem dJ2_add_7 : decode cJ2_add 7 = .ok (.putfield 63, 3) := dk_181 0 63 (dk_at dksJ2_add_0 7 rfl rfl)
theorem dJ2_add_10 : decode cJ2_add 10 = .ok (.aload_n 0, 1) := dk_42 (dk_at dksJ2_add_0 10 rfl rfl)
theorem dJ2_add_11 : decode cJ2_add 11 = .ok (.aload_n 1, 1) := dk_43 (dk_at dksJ2_add_0 11 rfl rfl)
theorem dJ2_add_12 : decode cJ2_add 12 = .ok (.aload_n 0, 1) := dk_42 (dk_at dksJ2_add_0 12 rfl rfl)
theorem dJ2_add_13 : decode cJ2_add 13 = .ok (.getfield 9, 3) := dk_180 0 9 (dk_at dksJ2_add_0 13 rfl rfl)
theorem dJ2_add_16 : decode cJ2_add 16 = .ok (.aload_n 0, 1) := dk_42 (dk_at dksJ2_add_0 16 rfl rfl)
theorem dJ2_add_17 : decode cJ2_add 17 = .ok (.getfield 48, 3) := dk_180 0 48 (dk_at dksJ2_add_0 17 rfl rfl)
theorem dJ2_add_20 : decode cJ2_add 20 = .ok (.invokevirtual 131, 3) := dk_182 0 131 (dk_at dksJ2_add_0 20 rfl rfl)
theorem dJ2_add_23 : decode cJ2_add 23 = .ok (.iconst 1, 1) := dk_4 (dk_at dksJ2_add_0 23 rfl rfl)
theorem dJ2_add_24 : decode cJ2_add 24 = .ok (.ireturn, 1) := dk_172 (dk_at dksJ2_add_1 0 rfl rfl)
abbrev cJ2_add_2 : ByteArray := prog_58_method_24_code
def yJ2_add_2 : MethodName := ⟨RJ2, "add", "(Ljava/lang/Object;[Ljava/lang/Object;I)V"⟩
def dkwJ2_add_2_0 : List UInt8 := [29, 44, 190, 160, 0, 8, 42, 182, 0, 129, 77, 44, 29, 43, 83, 42, 29, 4, 96, 181, 0, 48, 177]
abbrev dktJ2_add_2_0 : List UInt8 := dkwJ2_add_2_0 ++ []
theorem dksJ2_add_2_0 : cJ2_add_2.data.toList.drop 0 = dktJ2_add_2_0 := by decide +kernel
theorem dJ2_add_2_0 : decode cJ2_add_2 0 = .ok (.iload_n 3, 1) := dk_29 (dk_at dksJ2_add_2_0 0 rfl rfl)
theorem dJ2_add_2_1 : decode cJ2_add_2 1 = .ok (.aload_n 2, 1) := dk_44 (dk_at dksJ2_add_2_0 1 rfl rfl)
theorem dJ2_add_2_2 : decode cJ2_add_2 2 = .ok (.arraylength, 1) := dk_190 (dk_at dksJ2_add_2_0 2 rfl rfl)
theorem dJ2_add_2_3 : decode cJ2_add_2 3 = .ok (.if_icmp .ne 8, 3) := dk_160 0 8 (dk_at dksJ2_add_2_0 3 rfl rfl)
theorem dJ2_add_2_6 : decode cJ2_add_2 6 = .ok (.aload_n 0, 1) := dk_42 (dk_at dksJ2_add_2_0 6 rfl rfl)
theorem dJ2_add_2_7 : decode cJ2_add_2 7 = .ok (.invokevirtual 129, 3) := dk_182 0 129 (dk_at dksJ2_add_2_0 7 rfl rfl)
theorem dJ2_add_2_10 : decode cJ2_add_2 10 = .ok (.astore_n 2, 1) := dk_77 (dk_at dksJ2_add_2_0 10 rfl rfl)
theorem dJ2_add_2_11 : decode cJ2_add_2 11 = .ok (.aload_n 2, 1) := dk_44 (dk_at dksJ2_add_2_0 11 rfl rfl)
theorem dJ2_add_2_12 : decode cJ2_add_2 12 = .ok (.iload_n 3, 1) := dk_29 (dk_at dksJ2_add_2_0 12 rfl rfl)
theorem dJ2_add_2_13 : decode cJ2_add_2 13 = .ok (.aload_n 1, 1) := dk_43 (dk_at dksJ2_add_2_0 13 rfl rfl)
theorem dJ2_add_2_14 : decode cJ2_add_2 14 = .ok (.aastore, 1) := dk_83 (dk_at dksJ2_add_2_0 14 rfl rfl)
theorem dJ2_add_2_15 : decode cJ2_add_2 15 = .ok (.aload_n 0, 1) := dk_42 (dk_at dksJ2_add_2_0 15 rfl rfl)
theorem dJ2_add_2_16 : decode cJ2_add_2 16 = .ok (.iload_n 3, 1) := dk_29 (dk_at dksJ2_add_2_0 16 rfl rfl)
theorem dJ2_add_2_17 : decode cJ2_add_2 17 = .ok (.iconst 1, 1) := dk_4 (dk_at dksJ2_add_2_0 17 rfl rfl)
theorem dJ2_add_2_18 : decode cJ2_add_2 18 = .ok (.iadd, 1) := dk_96 (dk_at dksJ2_add_2_0 18 rfl rfl)
theorem dJ2_add_2_19 : decode cJ2_add_2 19 = .ok (.putfield 48, 3) := dk_181 0 48 (dk_at dksJ2_add_2_0 19 rfl rfl)
theorem dJ2_add_2_22 : decode cJ2_add_2 22 = .ok (.return_, 1) := dk_177 (dk_at dksJ2_add_2_0 22 rfl rfl)
abbrev cJ2_grow : ByteArray := prog_58_method_7_code
def yJ2_grow : MethodName := ⟨RJ2, "grow", "()[Ljava/lang/Object;"⟩
def dkwJ2_grow_0 : List UInt8 := [42, 42, 180, 0, 48, 4, 96, 182, 0, 69, 176]
abbrev dktJ2_grow_0 : List UInt8 := dkwJ2_grow_0 ++ []
theorem dksJ2_grow_0 : cJ2_grow.data.toList.drop 0 = dktJ2_grow_0 := by decide +kernel
theorem dJ2_grow_0 : decode cJ2_grow 0 = .ok (.aload_n 0, 1) := dk_42 (dk_at dksJ2_grow_0 0 rfl rfl)
theorem dJ2_grow_1 : decode cJ2_grow 1 = .ok (.aload_n 0, 1) := dk_42 (dk_at dksJ2_grow_0 1 rfl rfl)
theorem dJ2_grow_2 : decode cJ2_grow 2 = .ok (.getfield 48, 3) := dk_180 0 48 (dk_at dksJ2_grow_0 2 rfl rfl)
theorem dJ2_grow_5 : decode cJ2_grow 5 = .ok (.iconst 1, 1) := dk_4 (dk_at dksJ2_grow_0 5 rfl rfl)
theorem dJ2_grow_6 : decode cJ2_grow 6 = .ok (.iadd, 1) := dk_96 (dk_at dksJ2_grow_0 6 rfl rfl)
theorem dJ2_grow_7 : decode cJ2_grow 7 = .ok (.invokevirtual 69, 3) := dk_182 0 69 (dk_at dksJ2_grow_0 7 rfl rfl)
theorem dJ2_grow_10 : decode cJ2_grow 10 = .ok (.areturn, 1) := dk_176 (dk_at dksJ2_grow_0 10 rfl rfl)
abbrev cJ2_grow_2 : ByteArray := prog_58_method_6_code
def yJ2_grow_2 : MethodName := ⟨RJ2, "grow", "(I)[Ljava/lang/Object;"⟩
def dkwJ2_grow_2_2 : List UInt8 := [27, 184, 0, 79, 189, 0, 7, 90, 181, 0, 9, 176]
abbrev dktJ2_grow_2_2 : List UInt8 := dkwJ2_grow_2_2 ++ []
def dkwJ2_grow_2_1 : List UInt8 := [28, 4, 122, 184, 0, 73, 62, 42, 42, 180, 0, 9, 29, 184, 0, 66, 90, 181, 0, 9, 176, 42, 16, 10]
abbrev dktJ2_grow_2_1 : List UInt8 := dkwJ2_grow_2_1 ++ dktJ2_grow_2_2
def dkwJ2_grow_2_0 : List UInt8 := [42, 180, 0, 9, 190, 61, 28, 157, 0, 13, 42, 180, 0, 9, 178, 0, 39, 165, 0, 28, 28, 27, 28, 100]
abbrev dktJ2_grow_2_0 : List UInt8 := dkwJ2_grow_2_0 ++ dktJ2_grow_2_1
theorem dksJ2_grow_2_0 : cJ2_grow_2.data.toList.drop 0 = dktJ2_grow_2_0 := by decide +kernel
theorem dksJ2_grow_2_1 : cJ2_grow_2.data.toList.drop 24 = dktJ2_grow_2_1 := dk_seg dksJ2_grow_2_0 24 rfl rfl
theorem dksJ2_grow_2_2 : cJ2_grow_2.data.toList.drop 48 = dktJ2_grow_2_2 := dk_seg dksJ2_grow_2_1 24 rfl rfl
theorem dJ2_grow_2_0 : decode cJ2_grow_2 0 = .ok (.aload_n 0, 1) := dk_42 (dk_at dksJ2_grow_2_0 0 rfl rfl)
theorem dJ2_grow_2_1 : decode cJ2_grow_2 1 = .ok (.getfield 9, 3) := dk_180 0 9 (dk_at dksJ2_grow_2_0 1 rfl rfl)
theorem dJ2_grow_2_4 : decode cJ2_grow_2 4 = .ok (.arraylength, 1) := dk_190 (dk_at dksJ2_grow_2_0 4 rfl rfl)
theorem dJ2_grow_2_5 : decode cJ2_grow_2 5 = .ok (.istore_n 2, 1) := dk_61 (dk_at dksJ2_grow_2_0 5 rfl rfl)
theorem dJ2_grow_2_6 : decode cJ2_grow_2 6 = .ok (.iload_n 2, 1) := dk_28 (dk_at dksJ2_grow_2_0 6 rfl rfl)
theorem dJ2_grow_2_7 : decode cJ2_grow_2 7 = .ok (.ifCond .gt 13, 3) := dk_157 0 13 (dk_at dksJ2_grow_2_0 7 rfl rfl)
theorem dJ2_grow_2_10 : decode cJ2_grow_2 10 = .ok (.aload_n 0, 1) := dk_42 (dk_at dksJ2_grow_2_0 10 rfl rfl)
theorem dJ2_grow_2_11 : decode cJ2_grow_2 11 = .ok (.getfield 9, 3) := dk_180 0 9 (dk_at dksJ2_grow_2_0 11 rfl rfl)
theorem dJ2_grow_2_14 : decode cJ2_grow_2 14 = .ok (.getstatic 39, 3) := dk_178 0 39 (dk_at dksJ2_grow_2_0 14 rfl rfl)
theorem dJ2_grow_2_17 : decode cJ2_grow_2 17 = .ok (.if_acmp .eq 28, 3) := dk_165 0 28 (dk_at dksJ2_grow_2_0 17 rfl rfl)
theorem dJ2_grow_2_20 : decode cJ2_grow_2 20 = .ok (.iload_n 2, 1) := dk_28 (dk_at dksJ2_grow_2_0 20 rfl rfl)
theorem dJ2_grow_2_21 : decode cJ2_grow_2 21 = .ok (.iload_n 1, 1) := dk_27 (dk_at dksJ2_grow_2_0 21 rfl rfl)
theorem dJ2_grow_2_22 : decode cJ2_grow_2 22 = .ok (.iload_n 2, 1) := dk_28 (dk_at dksJ2_grow_2_0 22 rfl rfl)
theorem dJ2_grow_2_23 : decode cJ2_grow_2 23 = .ok (.isub, 1) := dk_100 (dk_at dksJ2_grow_2_0 23 rfl rfl)
theorem dJ2_grow_2_24 : decode cJ2_grow_2 24 = .ok (.iload_n 2, 1) := dk_28 (dk_at dksJ2_grow_2_1 0 rfl rfl)
theorem dJ2_grow_2_25 : decode cJ2_grow_2 25 = .ok (.iconst 1, 1) := dk_4 (dk_at dksJ2_grow_2_1 1 rfl rfl)
theorem dJ2_grow_2_26 : decode cJ2_grow_2 26 = .ok (.ishr, 1) := dk_122 (dk_at dksJ2_grow_2_1 2 rfl rfl)
theorem dJ2_grow_2_27 : decode cJ2_grow_2 27 = .ok (.invokestatic 73, 3) := dk_184 0 73 (dk_at dksJ2_grow_2_1 3 rfl rfl)
theorem dJ2_grow_2_30 : decode cJ2_grow_2 30 = .ok (.istore_n 3, 1) := dk_62 (dk_at dksJ2_grow_2_1 6 rfl rfl)
theorem dJ2_grow_2_31 : decode cJ2_grow_2 31 = .ok (.aload_n 0, 1) := dk_42 (dk_at dksJ2_grow_2_1 7 rfl rfl)
theorem dJ2_grow_2_32 : decode cJ2_grow_2 32 = .ok (.aload_n 0, 1) := dk_42 (dk_at dksJ2_grow_2_1 8 rfl rfl)
theorem dJ2_grow_2_33 : decode cJ2_grow_2 33 = .ok (.getfield 9, 3) := dk_180 0 9 (dk_at dksJ2_grow_2_1 9 rfl rfl)
theorem dJ2_grow_2_36 : decode cJ2_grow_2 36 = .ok (.iload_n 3, 1) := dk_29 (dk_at dksJ2_grow_2_1 12 rfl rfl)
theorem dJ2_grow_2_37 : decode cJ2_grow_2 37 = .ok (.invokestatic 66, 3) := dk_184 0 66 (dk_at dksJ2_grow_2_1 13 rfl rfl)
theorem dJ2_grow_2_40 : decode cJ2_grow_2 40 = .ok (.dup_x1, 1) := dk_90 (dk_at dksJ2_grow_2_1 16 rfl rfl)
theorem dJ2_grow_2_41 : decode cJ2_grow_2 41 = .ok (.putfield 9, 3) := dk_181 0 9 (dk_at dksJ2_grow_2_1 17 rfl rfl)
theorem dJ2_grow_2_44 : decode cJ2_grow_2 44 = .ok (.areturn, 1) := dk_176 (dk_at dksJ2_grow_2_1 20 rfl rfl)
theorem dJ2_grow_2_45 : decode cJ2_grow_2 45 = .ok (.aload_n 0, 1) := dk_42 (dk_at dksJ2_grow_2_1 21 rfl rfl)
theorem dJ2_grow_2_46 : decode cJ2_grow_2 46 = .ok (.bipush 10, 2) := dk_16 10 (dk_at dksJ2_grow_2_1 22 rfl rfl)
theorem dJ2_grow_2_48 : decode cJ2_grow_2 48 = .ok (.iload_n 1, 1) := dk_27 (dk_at dksJ2_grow_2_2 0 rfl rfl)
theorem dJ2_grow_2_49 : decode cJ2_grow_2 49 = .ok (.invokestatic 79, 3) := dk_184 0 79 (dk_at dksJ2_grow_2_2 1 rfl rfl)
theorem dJ2_grow_2_52 : decode cJ2_grow_2 52 = .ok (.anewarray 7, 3) := dk_189 0 7 (dk_at dksJ2_grow_2_2 4 rfl rfl)
theorem dJ2_grow_2_55 : decode cJ2_grow_2 55 = .ok (.dup_x1, 1) := dk_90 (dk_at dksJ2_grow_2_2 7 rfl rfl)
theorem dJ2_grow_2_56 : decode cJ2_grow_2 56 = .ok (.putfield 9, 3) := dk_181 0 9 (dk_at dksJ2_grow_2_2 8 rfl rfl)
theorem dJ2_grow_2_59 : decode cJ2_grow_2 59 = .ok (.areturn, 1) := dk_176 (dk_at dksJ2_grow_2_2 11 rfl rfl)
abbrev cJ2_iterator : ByteArray := prog_58_method_55_code
def yJ2_iterator : MethodName := ⟨RJ2, "iterator", "()Ljava/util/Iterator;"⟩
def dkwJ2_iterator_0 : List UInt8 := [187, 1, 11, 89, 42, 183, 1, 13, 176]
abbrev dktJ2_iterator_0 : List UInt8 := dkwJ2_iterator_0 ++ []
theorem dksJ2_iterator_0 : cJ2_iterator.data.toList.drop 0 = dktJ2_iterator_0 := by decide +kernel
theorem dJ2_iterator_0 : decode cJ2_iterator 0 = .ok (.new 267, 3) := dk_187 1 11 (dk_at dksJ2_iterator_0 0 rfl rfl)
theorem dJ2_iterator_3 : decode cJ2_iterator 3 = .ok (.dup, 1) := dk_89 (dk_at dksJ2_iterator_0 3 rfl rfl)
theorem dJ2_iterator_4 : decode cJ2_iterator 4 = .ok (.aload_n 0, 1) := dk_42 (dk_at dksJ2_iterator_0 4 rfl rfl)
theorem dJ2_iterator_5 : decode cJ2_iterator 5 = .ok (.invokespecial 269, 3) := dk_183 1 13 (dk_at dksJ2_iterator_0 5 rfl rfl)
theorem dJ2_iterator_8 : decode cJ2_iterator 8 = .ok (.areturn, 1) := dk_176 (dk_at dksJ2_iterator_0 8 rfl rfl)
abbrev cJ2_get : ByteArray := prog_58_method_20_code
def yJ2_get : MethodName := ⟨RJ2, "get", "(I)Ljava/lang/Object;"⟩
def dkwJ2_get_0 : List UInt8 := [27, 42, 180, 0, 48, 184, 0, 118, 87, 42, 27, 182, 0, 123, 176]
abbrev dktJ2_get_0 : List UInt8 := dkwJ2_get_0 ++ []
theorem dksJ2_get_0 : cJ2_get.data.toList.drop 0 = dktJ2_get_0 := by decide +kernel
theorem dJ2_get_0 : decode cJ2_get 0 = .ok (.iload_n 1, 1) := dk_27 (dk_at dksJ2_get_0 0 rfl rfl)
theorem dJ2_get_1 : decode cJ2_get 1 = .ok (.aload_n 0, 1) := dk_42 (dk_at dksJ2_get_0 1 rfl rfl)
theorem dJ2_get_2 : decode cJ2_get 2 = .ok (.getfield 48, 3) := dk_180 0 48 (dk_at dksJ2_get_0 2 rfl rfl)
theorem dJ2_get_5 : decode cJ2_get 5 = .ok (.invokestatic 118, 3) := dk_184 0 118 (dk_at dksJ2_get_0 5 rfl rfl)
theorem dJ2_get_8 : decode cJ2_get 8 = .ok (.pop, 1) := dk_87 (dk_at dksJ2_get_0 8 rfl rfl)
theorem dJ2_get_9 : decode cJ2_get 9 = .ok (.aload_n 0, 1) := dk_42 (dk_at dksJ2_get_0 9 rfl rfl)
theorem dJ2_get_10 : decode cJ2_get 10 = .ok (.iload_n 1, 1) := dk_27 (dk_at dksJ2_get_0 10 rfl rfl)
theorem dJ2_get_11 : decode cJ2_get 11 = .ok (.invokevirtual 123, 3) := dk_182 0 123 (dk_at dksJ2_get_0 11 rfl rfl)
theorem dJ2_get_14 : decode cJ2_get 14 = .ok (.areturn, 1) := dk_176 (dk_at dksJ2_get_0 14 rfl rfl)
abbrev cJ2_elementData : ByteArray := prog_58_method_18_code
def yJ2_elementData : MethodName := ⟨RJ2, "elementData", "(I)Ljava/lang/Object;"⟩
def dkwJ2_elementData_0 : List UInt8 := [42, 180, 0, 9, 27, 50, 176]
abbrev dktJ2_elementData_0 : List UInt8 := dkwJ2_elementData_0 ++ []
theorem dksJ2_elementData_0 : cJ2_elementData.data.toList.drop 0 = dktJ2_elementData_0 := by decide +kernel
theorem dJ2_elementData_0 : decode cJ2_elementData 0 = .ok (.aload_n 0, 1) := dk_42 (dk_at dksJ2_elementData_0 0 rfl rfl)
theorem dJ2_elementData_1 : decode cJ2_elementData 1 = .ok (.getfield 9, 3) := dk_180 0 9 (dk_at dksJ2_elementData_0 1 rfl rfl)
theorem dJ2_elementData_4 : decode cJ2_elementData 4 = .ok (.iload_n 1, 1) := dk_27 (dk_at dksJ2_elementData_0 4 rfl rfl)
theorem dJ2_elementData_5 : decode cJ2_elementData 5 = .ok (.aaload, 1) := dk_50 (dk_at dksJ2_elementData_0 5 rfl rfl)
theorem dJ2_elementData_6 : decode cJ2_elementData 6 = .ok (.areturn, 1) := dk_176 (dk_at dksJ2_elementData_0 6 rfl rfl)
abbrev cJ2_isEmpty : ByteArray := prog_58_method_9_code
def yJ2_isEmpty : MethodName := ⟨RJ2, "isEmpty", "()Z"⟩
def dkwJ2_isEmpty_0 : List UInt8 := [42, 180, 0, 48, 154, 0, 7, 4, 167, 0, 4, 3, 172]
abbrev dktJ2_isEmpty_0 : List UInt8 := dkwJ2_isEmpty_0 ++ []
theorem dksJ2_isEmpty_0 : cJ2_isEmpty.data.toList.drop 0 = dktJ2_isEmpty_0 := by decide +kernel
theorem dJ2_isEmpty_0 : decode cJ2_isEmpty 0 = .ok (.aload_n 0, 1) := dk_42 (dk_at dksJ2_isEmpty_0 0 rfl rfl)
theorem dJ2_isEmpty_1 : decode cJ2_isEmpty 1 = .ok (.getfield 48, 3) := dk_180 0 48 (dk_at dksJ2_isEmpty_0 1 rfl rfl)
theorem dJ2_isEmpty_4 : decode cJ2_isEmpty 4 = .ok (.ifCond .ne 7, 3) := dk_154 0 7 (dk_at dksJ2_isEmpty_0 4 rfl rfl)
theorem dJ2_isEmpty_7 : decode cJ2_isEmpty 7 = .ok (.iconst 1, 1) := dk_4 (dk_at dksJ2_isEmpty_0 7 rfl rfl)
theorem dJ2_isEmpty_8 : decode cJ2_isEmpty 8 = .ok (.goto 4, 3) := dk_167 0 4 (dk_at dksJ2_isEmpty_0 8 rfl rfl)
theorem dJ2_isEmpty_11 : decode cJ2_isEmpty 11 = .ok (.iconst 0, 1) := dk_3 (dk_at dksJ2_isEmpty_0 11 rfl rfl)
theorem dJ2_isEmpty_12 : decode cJ2_isEmpty 12 = .ok (.ireturn, 1) := dk_172 (dk_at dksJ2_isEmpty_0 12 rfl rfl)
abbrev cJ2_remove : ByteArray := prog_58_method_29_code
def yJ2_remove : MethodName := ⟨RJ2, "remove", "(I)Ljava/lang/Object;"⟩
def dkwJ2_remove_1 : List UInt8 := [45, 176]
abbrev dktJ2_remove_1 : List UInt8 := dkwJ2_remove_1 ++ []
def dkwJ2_remove_0 : List UInt8 := [27, 42, 180, 0, 48, 184, 0, 118, 87, 42, 180, 0, 9, 77, 44, 27, 50, 78, 42, 44, 27, 182, 0, 144]
abbrev dktJ2_remove_0 : List UInt8 := dkwJ2_remove_0 ++ dktJ2_remove_1
theorem dksJ2_remove_0 : cJ2_remove.data.toList.drop 0 = dktJ2_remove_0 := by decide +kernel
theorem dksJ2_remove_1 : cJ2_remove.data.toList.drop 24 = dktJ2_remove_1 := dk_seg dksJ2_remove_0 24 rfl rfl
theorem dJ2_remove_0 : decode cJ2_remove 0 = .ok (.iload_n 1, 1) := dk_27 (dk_at dksJ2_remove_0 0 rfl rfl)
theorem dJ2_remove_1 : decode cJ2_remove 1 = .ok (.aload_n 0, 1) := dk_42 (dk_at dksJ2_remove_0 1 rfl rfl)
theorem dJ2_remove_2 : decode cJ2_remove 2 = .ok (.getfield 48, 3) := dk_180 0 48 (dk_at dksJ2_remove_0 2 rfl rfl)
theorem dJ2_remove_5 : decode cJ2_remove 5 = .ok (.invokestatic 118, 3) := dk_184 0 118 (dk_at dksJ2_remove_0 5 rfl rfl)
theorem dJ2_remove_8 : decode cJ2_remove 8 = .ok (.pop, 1) := dk_87 (dk_at dksJ2_remove_0 8 rfl rfl)
theorem dJ2_remove_9 : decode cJ2_remove 9 = .ok (.aload_n 0, 1) := dk_42 (dk_at dksJ2_remove_0 9 rfl rfl)
theorem dJ2_remove_10 : decode cJ2_remove 10 = .ok (.getfield 9, 3) := dk_180 0 9 (dk_at dksJ2_remove_0 10 rfl rfl)
theorem dJ2_remove_13 : decode cJ2_remove 13 = .ok (.astore_n 2, 1) := dk_77 (dk_at dksJ2_remove_0 13 rfl rfl)
theorem dJ2_remove_14 : decode cJ2_remove 14 = .ok (.aload_n 2, 1) := dk_44 (dk_at dksJ2_remove_0 14 rfl rfl)
theorem dJ2_remove_15 : decode cJ2_remove 15 = .ok (.iload_n 1, 1) := dk_27 (dk_at dksJ2_remove_0 15 rfl rfl)
theorem dJ2_remove_16 : decode cJ2_remove 16 = .ok (.aaload, 1) := dk_50 (dk_at dksJ2_remove_0 16 rfl rfl)
theorem dJ2_remove_17 : decode cJ2_remove 17 = .ok (.astore_n 3, 1) := dk_78 (dk_at dksJ2_remove_0 17 rfl rfl)
theorem dJ2_remove_18 : decode cJ2_remove 18 = .ok (.aload_n 0, 1) := dk_42 (dk_at dksJ2_remove_0 18 rfl rfl)
theorem dJ2_remove_19 : decode cJ2_remove 19 = .ok (.aload_n 2, 1) := dk_44 (dk_at dksJ2_remove_0 19 rfl rfl)
theorem dJ2_remove_20 : decode cJ2_remove 20 = .ok (.iload_n 1, 1) := dk_27 (dk_at dksJ2_remove_0 20 rfl rfl)
theorem dJ2_remove_21 : decode cJ2_remove 21 = .ok (.invokevirtual 144, 3) := dk_182 0 144 (dk_at dksJ2_remove_0 21 rfl rfl)
theorem dJ2_remove_24 : decode cJ2_remove 24 = .ok (.aload_n 3, 1) := dk_45 (dk_at dksJ2_remove_1 0 rfl rfl)
theorem dJ2_remove_25 : decode cJ2_remove 25 = .ok (.areturn, 1) := dk_176 (dk_at dksJ2_remove_1 1 rfl rfl)
abbrev cJ2_fastRemove : ByteArray := prog_58_method_39_code
def yJ2_fastRemove : MethodName := ⟨RJ2, "fastRemove", "([Ljava/lang/Object;I)V"⟩
def dkwJ2_fastRemove_1 : List UInt8 := [4, 96, 43, 28, 29, 28, 100, 184, 0, 112, 43, 42, 29, 90, 181, 0, 48, 1, 83, 177]
abbrev dktJ2_fastRemove_1 : List UInt8 := dkwJ2_fastRemove_1 ++ []
def dkwJ2_fastRemove_0 : List UInt8 := [42, 89, 180, 0, 63, 4, 96, 181, 0, 63, 42, 180, 0, 48, 4, 100, 89, 62, 28, 164, 0, 15, 43, 28]
abbrev dktJ2_fastRemove_0 : List UInt8 := dkwJ2_fastRemove_0 ++ dktJ2_fastRemove_1
theorem dksJ2_fastRemove_0 : cJ2_fastRemove.data.toList.drop 0 = dktJ2_fastRemove_0 := by decide +kernel
theorem dksJ2_fastRemove_1 : cJ2_fastRemove.data.toList.drop 24 = dktJ2_fastRemove_1 := dk_seg dksJ2_fastRemove_0 24 rfl rfl
theorem dJ2_fastRemove_0 : decode cJ2_fastRemove 0 = .ok (.aload_n 0, 1) := dk_42 (dk_at dksJ2_fastRemove_0 0 rfl rfl)
theorem dJ2_fastRemove_1 : decode cJ2_fastRemove 1 = .ok (.dup, 1) := dk_89 (dk_at dksJ2_fastRemove_0 1 rfl rfl)
theorem dJ2_fastRemove_2 : decode cJ2_fastRemove 2 = .ok (.getfield 63, 3) := dk_180 0 63 (dk_at dksJ2_fastRemove_0 2 rfl rfl)
theorem dJ2_fastRemove_5 : decode cJ2_fastRemove 5 = .ok (.iconst 1, 1) := dk_4 (dk_at dksJ2_fastRemove_0 5 rfl rfl)
theorem dJ2_fastRemove_6 : decode cJ2_fastRemove 6 = .ok (.iadd, 1) := dk_96 (dk_at dksJ2_fastRemove_0 6 rfl rfl)
theorem dJ2_fastRemove_7 : decode cJ2_fastRemove 7 = .ok (.putfield 63, 3) := dk_181 0 63 (dk_at dksJ2_fastRemove_0 7 rfl rfl)
theorem dJ2_fastRemove_10 : decode cJ2_fastRemove 10 = .ok (.aload_n 0, 1) := dk_42 (dk_at dksJ2_fastRemove_0 10 rfl rfl)
theorem dJ2_fastRemove_11 : decode cJ2_fastRemove 11 = .ok (.getfield 48, 3) := dk_180 0 48 (dk_at dksJ2_fastRemove_0 11 rfl rfl)
theorem dJ2_fastRemove_14 : decode cJ2_fastRemove 14 = .ok (.iconst 1, 1) := dk_4 (dk_at dksJ2_fastRemove_0 14 rfl rfl)
theorem dJ2_fastRemove_15 : decode cJ2_fastRemove 15 = .ok (.isub, 1) := dk_100 (dk_at dksJ2_fastRemove_0 15 rfl rfl)
theorem dJ2_fastRemove_16 : decode cJ2_fastRemove 16 = .ok (.dup, 1) := dk_89 (dk_at dksJ2_fastRemove_0 16 rfl rfl)
theorem dJ2_fastRemove_17 : decode cJ2_fastRemove 17 = .ok (.istore_n 3, 1) := dk_62 (dk_at dksJ2_fastRemove_0 17 rfl rfl)
theorem dJ2_fastRemove_18 : decode cJ2_fastRemove 18 = .ok (.iload_n 2, 1) := dk_28 (dk_at dksJ2_fastRemove_0 18 rfl rfl)
theorem dJ2_fastRemove_19 : decode cJ2_fastRemove 19 = .ok (.if_icmp .le 15, 3) := dk_164 0 15 (dk_at dksJ2_fastRemove_0 19 rfl rfl)
theorem dJ2_fastRemove_22 : decode cJ2_fastRemove 22 = .ok (.aload_n 1, 1) := dk_43 (dk_at dksJ2_fastRemove_0 22 rfl rfl)
theorem dJ2_fastRemove_23 : decode cJ2_fastRemove 23 = .ok (.iload_n 2, 1) := dk_28 (dk_at dksJ2_fastRemove_0 23 rfl rfl)
theorem dJ2_fastRemove_24 : decode cJ2_fastRemove 24 = .ok (.iconst 1, 1) := dk_4 (dk_at dksJ2_fastRemove_1 0 rfl rfl)
theorem dJ2_fastRemove_25 : decode cJ2_fastRemove 25 = .ok (.iadd, 1) := dk_96 (dk_at dksJ2_fastRemove_1 1 rfl rfl)
theorem dJ2_fastRemove_26 : decode cJ2_fastRemove 26 = .ok (.aload_n 1, 1) := dk_43 (dk_at dksJ2_fastRemove_1 2 rfl rfl)
theorem dJ2_fastRemove_27 : decode cJ2_fastRemove 27 = .ok (.iload_n 2, 1) := dk_28 (dk_at dksJ2_fastRemove_1 3 rfl rfl)
theorem dJ2_fastRemove_28 : decode cJ2_fastRemove 28 = .ok (.iload_n 3, 1) := dk_29 (dk_at dksJ2_fastRemove_1 4 rfl rfl)
theorem dJ2_fastRemove_29 : decode cJ2_fastRemove 29 = .ok (.iload_n 2, 1) := dk_28 (dk_at dksJ2_fastRemove_1 5 rfl rfl)
theorem dJ2_fastRemove_30 : decode cJ2_fastRemove 30 = .ok (.isub, 1) := dk_100 (dk_at dksJ2_fastRemove_1 6 rfl rfl)
theorem dJ2_fastRemove_31 : decode cJ2_fastRemove 31 = .ok (.invokestatic 112, 3) := dk_184 0 112 (dk_at dksJ2_fastRemove_1 7 rfl rfl)
theorem dJ2_fastRemove_34 : decode cJ2_fastRemove 34 = .ok (.aload_n 1, 1) := dk_43 (dk_at dksJ2_fastRemove_1 10 rfl rfl)
theorem dJ2_fastRemove_35 : decode cJ2_fastRemove 35 = .ok (.aload_n 0, 1) := dk_42 (dk_at dksJ2_fastRemove_1 11 rfl rfl)
theorem dJ2_fastRemove_36 : decode cJ2_fastRemove 36 = .ok (.iload_n 3, 1) := dk_29 (dk_at dksJ2_fastRemove_1 12 rfl rfl)
theorem dJ2_fastRemove_37 : decode cJ2_fastRemove 37 = .ok (.dup_x1, 1) := dk_90 (dk_at dksJ2_fastRemove_1 13 rfl rfl)
theorem dJ2_fastRemove_38 : decode cJ2_fastRemove 38 = .ok (.putfield 48, 3) := dk_181 0 48 (dk_at dksJ2_fastRemove_1 14 rfl rfl)
theorem dJ2_fastRemove_41 : decode cJ2_fastRemove 41 = .ok (.aconst_null, 1) := dk_1 (dk_at dksJ2_fastRemove_1 17 rfl rfl)
theorem dJ2_fastRemove_42 : decode cJ2_fastRemove 42 = .ok (.aastore, 1) := dk_83 (dk_at dksJ2_fastRemove_1 18 rfl rfl)
theorem dJ2_fastRemove_43 : decode cJ2_fastRemove 43 = .ok (.return_, 1) := dk_177 (dk_at dksJ2_fastRemove_1 19 rfl rfl)
abbrev cJ2_clear : ByteArray := prog_58_method_40_code
def yJ2_clear : MethodName := ⟨RJ2, "clear", "()V"⟩
def dkwJ2_clear_1 : List UInt8 := [181, 0, 48, 62, 29, 28, 162, 0, 13, 43, 29, 1, 83, 132, 3, 1, 167, 255, 244, 177]
abbrev dktJ2_clear_1 : List UInt8 := dkwJ2_clear_1 ++ []
def dkwJ2_clear_0 : List UInt8 := [42, 89, 180, 0, 63, 4, 96, 181, 0, 63, 42, 180, 0, 9, 76, 42, 180, 0, 48, 61, 42, 3, 90]
abbrev dktJ2_clear_0 : List UInt8 := dkwJ2_clear_0 ++ dktJ2_clear_1
theorem dksJ2_clear_0 : cJ2_clear.data.toList.drop 0 = dktJ2_clear_0 := by decide +kernel
theorem dksJ2_clear_1 : cJ2_clear.data.toList.drop 23 = dktJ2_clear_1 := dk_seg dksJ2_clear_0 23 rfl rfl
theorem dJ2_clear_0 : decode cJ2_clear 0 = .ok (.aload_n 0, 1) := dk_42 (dk_at dksJ2_clear_0 0 rfl rfl)
theorem dJ2_clear_1 : decode cJ2_clear 1 = .ok (.dup, 1) := dk_89 (dk_at dksJ2_clear_0 1 rfl rfl)
theorem dJ2_clear_2 : decode cJ2_clear 2 = .ok (.getfield 63, 3) := dk_180 0 63 (dk_at dksJ2_clear_0 2 rfl rfl)
theorem dJ2_clear_5 : decode cJ2_clear 5 = .ok (.iconst 1, 1) := dk_4 (dk_at dksJ2_clear_0 5 rfl rfl)
theorem dJ2_clear_6 : decode cJ2_clear 6 = .ok (.iadd, 1) := dk_96 (dk_at dksJ2_clear_0 6 rfl rfl)
theorem dJ2_clear_7 : decode cJ2_clear 7 = .ok (.putfield 63, 3) := dk_181 0 63 (dk_at dksJ2_clear_0 7 rfl rfl)
theorem dJ2_clear_10 : decode cJ2_clear 10 = .ok (.aload_n 0, 1) := dk_42 (dk_at dksJ2_clear_0 10 rfl rfl)
theorem dJ2_clear_11 : decode cJ2_clear 11 = .ok (.getfield 9, 3) := dk_180 0 9 (dk_at dksJ2_clear_0 11 rfl rfl)
theorem dJ2_clear_14 : decode cJ2_clear 14 = .ok (.astore_n 1, 1) := dk_76 (dk_at dksJ2_clear_0 14 rfl rfl)
theorem dJ2_clear_15 : decode cJ2_clear 15 = .ok (.aload_n 0, 1) := dk_42 (dk_at dksJ2_clear_0 15 rfl rfl)
theorem dJ2_clear_16 : decode cJ2_clear 16 = .ok (.getfield 48, 3) := dk_180 0 48 (dk_at dksJ2_clear_0 16 rfl rfl)
theorem dJ2_clear_19 : decode cJ2_clear 19 = .ok (.istore_n 2, 1) := dk_61 (dk_at dksJ2_clear_0 19 rfl rfl)
theorem dJ2_clear_20 : decode cJ2_clear 20 = .ok (.aload_n 0, 1) := dk_42 (dk_at dksJ2_clear_0 20 rfl rfl)
theorem dJ2_clear_21 : decode cJ2_clear 21 = .ok (.iconst 0, 1) := dk_3 (dk_at dksJ2_clear_0 21 rfl rfl)
theorem dJ2_clear_22 : decode cJ2_clear 22 = .ok (.dup_x1, 1) := dk_90 (dk_at dksJ2_clear_0 22 rfl rfl)
theorem dJ2_clear_23 : decode cJ2_clear 23 = .ok (.putfield 48, 3) := dk_181 0 48 (dk_at dksJ2_clear_1 0 rfl rfl)
theorem dJ2_clear_26 : decode cJ2_clear 26 = .ok (.istore_n 3, 1) := dk_62 (dk_at dksJ2_clear_1 3 rfl rfl)
theorem dJ2_clear_27 : decode cJ2_clear 27 = .ok (.iload_n 3, 1) := dk_29 (dk_at dksJ2_clear_1 4 rfl rfl)
theorem dJ2_clear_28 : decode cJ2_clear 28 = .ok (.iload_n 2, 1) := dk_28 (dk_at dksJ2_clear_1 5 rfl rfl)
theorem dJ2_clear_29 : decode cJ2_clear 29 = .ok (.if_icmp .ge 13, 3) := dk_162 0 13 (dk_at dksJ2_clear_1 6 rfl rfl)
theorem dJ2_clear_32 : decode cJ2_clear 32 = .ok (.aload_n 1, 1) := dk_43 (dk_at dksJ2_clear_1 9 rfl rfl)
theorem dJ2_clear_33 : decode cJ2_clear 33 = .ok (.iload_n 3, 1) := dk_29 (dk_at dksJ2_clear_1 10 rfl rfl)
theorem dJ2_clear_34 : decode cJ2_clear 34 = .ok (.aconst_null, 1) := dk_1 (dk_at dksJ2_clear_1 11 rfl rfl)
theorem dJ2_clear_35 : decode cJ2_clear 35 = .ok (.aastore, 1) := dk_83 (dk_at dksJ2_clear_1 12 rfl rfl)
theorem dJ2_clear_36 : decode cJ2_clear 36 = .ok (.iinc 3 1, 3) := dk_132 3 1 (dk_at dksJ2_clear_1 13 rfl rfl)
theorem dJ2_clear_39 : decode cJ2_clear 39 = .ok (.goto (-12), 3) := dk_167 255 244 (dk_at dksJ2_clear_1 16 rfl rfl)
theorem dJ2_clear_42 : decode cJ2_clear 42 = .ok (.return_, 1) := dk_177 (dk_at dksJ2_clear_1 19 rfl rfl)
abbrev cJ2_remove_2 : ByteArray := prog_58_method_38_code
def yJ2_remove_2 : MethodName := ⟨RJ2, "remove", "(Ljava/lang/Object;)Z"⟩
def dkwJ2_remove_2_3 : List UInt8 := [182, 0, 144, 4, 172]
abbrev dktJ2_remove_2_3 : List UInt8 := dkwJ2_remove_2_3 ++ []
def dkwJ2_remove_2_2 : List UInt8 := [21, 4, 50, 182, 0, 93, 153, 0, 6, 167, 0, 11, 132, 4, 1, 167, 255, 233, 3, 172, 42, 44, 21, 4]
abbrev dktJ2_remove_2_2 : List UInt8 := dkwJ2_remove_2_2 ++ dktJ2_remove_2_3
def dkwJ2_remove_2_1 : List UInt8 := [21, 4, 50, 199, 0, 6, 167, 0, 37, 132, 4, 1, 167, 255, 237, 21, 4, 29, 162, 0, 23, 43, 44]
abbrev dktJ2_remove_2_1 : List UInt8 := dkwJ2_remove_2_1 ++ dktJ2_remove_2_2
def dkwJ2_remove_2_0 : List UInt8 := [42, 180, 0, 9, 77, 42, 180, 0, 48, 62, 3, 54, 4, 43, 199, 0, 25, 21, 4, 29, 162, 0, 45, 44]
abbrev dktJ2_remove_2_0 : List UInt8 := dkwJ2_remove_2_0 ++ dktJ2_remove_2_1
theorem dksJ2_remove_2_0 : cJ2_remove_2.data.toList.drop 0 = dktJ2_remove_2_0 := by decide +kernel
theorem dksJ2_remove_2_1 : cJ2_remove_2.data.toList.drop 24 = dktJ2_remove_2_1 := dk_seg dksJ2_remove_2_0 24 rfl rfl
theorem dksJ2_remove_2_2 : cJ2_remove_2.data.toList.drop 47 = dktJ2_remove_2_2 := dk_seg dksJ2_remove_2_1 23 rfl rfl
theorem dksJ2_remove_2_3 : cJ2_remove_2.data.toList.drop 71 = dktJ2_remove_2_3 := dk_seg dksJ2_remove_2_2 24 rfl rfl
theorem dJ2_remove_2_0 : decode cJ2_remove_2 0 = .ok (.aload_n 0, 1) := dk_42 (dk_at dksJ2_remove_2_0 0 rfl rfl)
theorem dJ2_remove_2_1 : decode cJ2_remove_2 1 = .ok (.getfield 9, 3) := dk_180 0 9 (dk_at dksJ2_remove_2_0 1 rfl rfl)
theorem dJ2_remove_2_4 : decode cJ2_remove_2 4 = .ok (.astore_n 2, 1) := dk_77 (dk_at dksJ2_remove_2_0 4 rfl rfl)
theorem dJ2_remove_2_5 : decode cJ2_remove_2 5 = .ok (.aload_n 0, 1) := dk_42 (dk_at dksJ2_remove_2_0 5 rfl rfl)
theorem dJ2_remove_2_6 : decode cJ2_remove_2 6 = .ok (.getfield 48, 3) := dk_180 0 48 (dk_at dksJ2_remove_2_0 6 rfl rfl)
theorem dJ2_remove_2_9 : decode cJ2_remove_2 9 = .ok (.istore_n 3, 1) := dk_62 (dk_at dksJ2_remove_2_0 9 rfl rfl)
theorem dJ2_remove_2_10 : decode cJ2_remove_2 10 = .ok (.iconst 0, 1) := dk_3 (dk_at dksJ2_remove_2_0 10 rfl rfl)
theorem dJ2_remove_2_11 : decode cJ2_remove_2 11 = .ok (.istore 4, 2) := dk_54 4 (dk_at dksJ2_remove_2_0 11 rfl rfl)
theorem dJ2_remove_2_13 : decode cJ2_remove_2 13 = .ok (.aload_n 1, 1) := dk_43 (dk_at dksJ2_remove_2_0 13 rfl rfl)
theorem dJ2_remove_2_14 : decode cJ2_remove_2 14 = .ok (.ifnonnull 25, 3) := dk_199 0 25 (dk_at dksJ2_remove_2_0 14 rfl rfl)
theorem dJ2_remove_2_17 : decode cJ2_remove_2 17 = .ok (.iload 4, 2) := dk_21 4 (dk_at dksJ2_remove_2_0 17 rfl rfl)
theorem dJ2_remove_2_19 : decode cJ2_remove_2 19 = .ok (.iload_n 3, 1) := dk_29 (dk_at dksJ2_remove_2_0 19 rfl rfl)
theorem dJ2_remove_2_20 : decode cJ2_remove_2 20 = .ok (.if_icmp .ge 45, 3) := dk_162 0 45 (dk_at dksJ2_remove_2_0 20 rfl rfl)
theorem dJ2_remove_2_23 : decode cJ2_remove_2 23 = .ok (.aload_n 2, 1) := dk_44 (dk_at dksJ2_remove_2_0 23 rfl rfl)
theorem dJ2_remove_2_24 : decode cJ2_remove_2 24 = .ok (.iload 4, 2) := dk_21 4 (dk_at dksJ2_remove_2_1 0 rfl rfl)
theorem dJ2_remove_2_26 : decode cJ2_remove_2 26 = .ok (.aaload, 1) := dk_50 (dk_at dksJ2_remove_2_1 2 rfl rfl)
theorem dJ2_remove_2_27 : decode cJ2_remove_2 27 = .ok (.ifnonnull 6, 3) := dk_199 0 6 (dk_at dksJ2_remove_2_1 3 rfl rfl)
theorem dJ2_remove_2_30 : decode cJ2_remove_2 30 = .ok (.goto 37, 3) := dk_167 0 37 (dk_at dksJ2_remove_2_1 6 rfl rfl)
theorem dJ2_remove_2_33 : decode cJ2_remove_2 33 = .ok (.iinc 4 1, 3) := dk_132 4 1 (dk_at dksJ2_remove_2_1 9 rfl rfl)
theorem dJ2_remove_2_36 : decode cJ2_remove_2 36 = .ok (.goto (-19), 3) := dk_167 255 237 (dk_at dksJ2_remove_2_1 12 rfl rfl)
theorem dJ2_remove_2_39 : decode cJ2_remove_2 39 = .ok (.iload 4, 2) := dk_21 4 (dk_at dksJ2_remove_2_1 15 rfl rfl)
theorem dJ2_remove_2_41 : decode cJ2_remove_2 41 = .ok (.iload_n 3, 1) := dk_29 (dk_at dksJ2_remove_2_1 17 rfl rfl)
theorem dJ2_remove_2_42 : decode cJ2_remove_2 42 = .ok (.if_icmp .ge 23, 3) := dk_162 0 23 (dk_at dksJ2_remove_2_1 18 rfl rfl)
theorem dJ2_remove_2_45 : decode cJ2_remove_2 45 = .ok (.aload_n 1, 1) := dk_43 (dk_at dksJ2_remove_2_1 21 rfl rfl)
theorem dJ2_remove_2_46 : decode cJ2_remove_2 46 = .ok (.aload_n 2, 1) := dk_44 (dk_at dksJ2_remove_2_1 22 rfl rfl)
theorem dJ2_remove_2_47 : decode cJ2_remove_2 47 = .ok (.iload 4, 2) := dk_21 4 (dk_at dksJ2_remove_2_2 0 rfl rfl)
theorem dJ2_remove_2_49 : decode cJ2_remove_2 49 = .ok (.aaload, 1) := dk_50 (dk_at dksJ2_remove_2_2 2 rfl rfl)
theorem dJ2_remove_2_50 : decode cJ2_remove_2 50 = .ok (.invokevirtual 93, 3) := dk_182 0 93 (dk_at dksJ2_remove_2_2 3 rfl rfl)
theorem dJ2_remove_2_53 : decode cJ2_remove_2 53 = .ok (.ifCond .eq 6, 3) := dk_153 0 6 (dk_at dksJ2_remove_2_2 6 rfl rfl)
theorem dJ2_remove_2_56 : decode cJ2_remove_2 56 = .ok (.goto 11, 3) := dk_167 0 11 (dk_at dksJ2_remove_2_2 9 rfl rfl)
theorem dJ2_remove_2_59 : decode cJ2_remove_2 59 = .ok (.iinc 4 1, 3) := dk_132 4 1 (dk_at dksJ2_remove_2_2 12 rfl rfl)
theorem dJ2_remove_2_62 : decode cJ2_remove_2 62 = .ok (.goto (-23), 3) := dk_167 255 233 (dk_at dksJ2_remove_2_2 15 rfl rfl)
theorem dJ2_remove_2_65 : decode cJ2_remove_2 65 = .ok (.iconst 0, 1) := dk_3 (dk_at dksJ2_remove_2_2 18 rfl rfl)
theorem dJ2_remove_2_66 : decode cJ2_remove_2 66 = .ok (.ireturn, 1) := dk_172 (dk_at dksJ2_remove_2_2 19 rfl rfl)
theorem dJ2_remove_2_67 : decode cJ2_remove_2 67 = .ok (.aload_n 0, 1) := dk_42 (dk_at dksJ2_remove_2_2 20 rfl rfl)
theorem dJ2_remove_2_68 : decode cJ2_remove_2 68 = .ok (.aload_n 2, 1) := dk_44 (dk_at dksJ2_remove_2_2 21 rfl rfl)
theorem dJ2_remove_2_69 : decode cJ2_remove_2 69 = .ok (.iload 4, 2) := dk_21 4 (dk_at dksJ2_remove_2_2 22 rfl rfl)
theorem dJ2_remove_2_71 : decode cJ2_remove_2 71 = .ok (.invokevirtual 144, 3) := dk_182 0 144 (dk_at dksJ2_remove_2_3 0 rfl rfl)
theorem dJ2_remove_2_74 : decode cJ2_remove_2 74 = .ok (.iconst 1, 1) := dk_4 (dk_at dksJ2_remove_2_3 3 rfl rfl)
theorem dJ2_remove_2_75 : decode cJ2_remove_2 75 = .ok (.ireturn, 1) := dk_172 (dk_at dksJ2_remove_2_3 4 rfl rfl)
theorem q81 : (Jvm.Cond.initialized "java/util/ArrayList") ∈ lw_all := lw_g (lw_at lw_m1 5 rfl) rfl
theorem q166 : (Jvm.Cond.instantiable "java/util/ArrayList" (3 : Nat)) ∈ lw_all := lw_g (lw_at lw_m1 90 rfl) rfl
theorem q168 : (Jvm.Cond.instanceMethod ({ cls := "java/util/ArrayList", name := "<init>", desc := "()V" } : Jvm.MethodName)) ∈ lw_all := lw_g (lw_at lw_m1 92 rfl) rfl
theorem q169 : (Jvm.Cond.code ({ cls := "java/util/ArrayList", name := "<init>", desc := "()V" } : Jvm.MethodName) prog_58_method_2_code (1 : Nat) (Option.none : Option Jvm.ClassFile.FieldType)) ∈ lw_all := lw_g (lw_at lw_m1 93 rfl) rfl
theorem q170 : (Jvm.Cond.methodLink "java/util/ArrayList" (1 : Nat) ({ cls := "java/util/AbstractList", name := "<init>", desc := "()V" } : Jvm.MethodName)) ∈ lw_all := lw_g (lw_at lw_m1 94 rfl) rfl
theorem q177 : (Jvm.Cond.fieldLink "java/util/ArrayList" (39 : Nat) "java/util/ArrayList" "DEFAULTCAPACITY_EMPTY_ELEMENTDATA" "[Ljava/lang/Object;") ∈ lw_all := lw_g (lw_at lw_m1 101 rfl) rfl
theorem q178 : (Jvm.Cond.laysStatic "java/util/ArrayList" "DEFAULTCAPACITY_EMPTY_ELEMENTDATA" "[Ljava/lang/Object;") ∈ lw_tbl := lw_at lw_m1 102 rfl
theorem q179 : (Jvm.Cond.fieldLink "java/util/ArrayList" (9 : Nat) "java/util/ArrayList" "elementData" "[Ljava/lang/Object;") ∈ lw_all := lw_g (lw_at lw_m1 103 rfl) rfl
theorem q182 : (Jvm.Cond.fieldLink "java/util/ArrayList" (48 : Nat) "java/util/ArrayList" "size" "I") ∈ lw_all := lw_g (lw_at lw_m1 106 rfl) rfl
theorem q185 : (Jvm.Cond.sameField "java/util/ArrayList" "java/util/AbstractList" "modCount" "I") ∈ lw_all := lw_g (lw_at lw_m1 109 rfl) rfl
theorem q186 : (Jvm.Cond.fieldLink "java/util/ArrayList" (63 : Nat) "java/util/ArrayList" "modCount" "I") ∈ lw_all := lw_g (lw_at lw_m1 110 rfl) rfl
theorem q187 : (Jvm.Cond.lays "java/util/ArrayList" "java/util/ArrayList" "elementData" "[Ljava/lang/Object;") ∈ lw_all := lw_g (lw_at lw_m1 111 rfl) rfl
theorem q188 : (Jvm.Cond.soleField "java/util/ArrayList" "elementData") ∈ lw_all := lw_g (lw_at lw_m1 112 rfl) rfl
theorem q189 : (Jvm.Cond.lays "java/util/ArrayList" "java/util/ArrayList" "size" "I") ∈ lw_all := lw_g (lw_at lw_m1 113 rfl) rfl
theorem q190 : (Jvm.Cond.soleField "java/util/ArrayList" "size") ∈ lw_all := lw_g (lw_at lw_m1 114 rfl) rfl
theorem q191 : (Jvm.Cond.lays "java/util/ArrayList" "java/util/AbstractList" "modCount" "I") ∈ lw_all := lw_g (lw_at lw_m1 115 rfl) rfl
theorem q193 : (Jvm.Cond.superclass "java/util/ArrayList" "java/util/AbstractList") ∈ lw_all := lw_g (lw_at lw_m1 117 rfl) rfl
theorem q318 : (Jvm.Cond.castable "java/util/ArrayList" "java/util/List") ∈ lw_tbl := lw_at lw_m2 2 rfl
theorem q319 : (Jvm.Cond.selects "java/util/ArrayList" ({ cls := "java/util/List", name := "size", desc := "()I" } : Jvm.MethodName) ({ cls := "java/util/ArrayList", name := "size", desc := "()I" } : Jvm.MethodName)) ∈ lw_all := lw_g (lw_at lw_m2 3 rfl) rfl
theorem q320 : (Jvm.Cond.unhidden "java/util/ArrayList" "size" "()I") ∈ lw_tbl := lw_at lw_m2 4 rfl
theorem q321 : (Jvm.Cond.instanceMethod ({ cls := "java/util/ArrayList", name := "size", desc := "()I" } : Jvm.MethodName)) ∈ lw_all := lw_g (lw_at lw_m2 5 rfl) rfl
theorem q322 : (Jvm.Cond.publicMethod ({ cls := "java/util/ArrayList", name := "size", desc := "()I" } : Jvm.MethodName)) ∈ lw_tbl := lw_at lw_m2 6 rfl
theorem q323 : (Jvm.Cond.code ({ cls := "java/util/ArrayList", name := "size", desc := "()I" } : Jvm.MethodName) prog_58_method_8_code (1 : Nat) (Option.some Jvm.ClassFile.FieldType.int)) ∈ lw_all := lw_g (lw_at lw_m2 7 rfl) rfl
theorem q709 : (Jvm.Cond.selects "java/util/ArrayList" ({ cls := "java/util/List", name := "add", desc := "(Ljava/lang/Object;)Z" } : Jvm.MethodName) ({ cls := "java/util/ArrayList", name := "add", desc := "(Ljava/lang/Object;)Z" } : Jvm.MethodName)) ∈ lw_all := lw_g (lw_at lw_m3 153 rfl) rfl
theorem q710 : (Jvm.Cond.unhidden "java/util/ArrayList" "add" "(Ljava/lang/Object;)Z") ∈ lw_tbl := lw_at lw_m3 154 rfl
theorem q711 : (Jvm.Cond.instanceMethod ({ cls := "java/util/ArrayList", name := "add", desc := "(Ljava/lang/Object;)Z" } : Jvm.MethodName)) ∈ lw_all := lw_g (lw_at lw_m3 155 rfl) rfl
theorem q712 : (Jvm.Cond.publicMethod ({ cls := "java/util/ArrayList", name := "add", desc := "(Ljava/lang/Object;)Z" } : Jvm.MethodName)) ∈ lw_tbl := lw_at lw_m3 156 rfl
theorem q713 : (Jvm.Cond.code ({ cls := "java/util/ArrayList", name := "add", desc := "(Ljava/lang/Object;)Z" } : Jvm.MethodName) prog_58_method_25_code (2 : Nat) (Option.some Jvm.ClassFile.FieldType.boolean)) ∈ lw_all := lw_g (lw_at lw_m3 157 rfl) rfl
theorem q714 : (Jvm.Cond.methodLink "java/util/ArrayList" (131 : Nat) ({ cls := "java/util/ArrayList", name := "add", desc := "(Ljava/lang/Object;[Ljava/lang/Object;I)V" } : Jvm.MethodName)) ∈ lw_all := lw_g (lw_at lw_m3 158 rfl) rfl
theorem q715 : (Jvm.Cond.privateMethod ({ cls := "java/util/ArrayList", name := "add", desc := "(Ljava/lang/Object;[Ljava/lang/Object;I)V" } : Jvm.MethodName)) ∈ lw_tbl := lw_at lw_m3 159 rfl
theorem q716 : (Jvm.Cond.instanceMethod ({ cls := "java/util/ArrayList", name := "add", desc := "(Ljava/lang/Object;[Ljava/lang/Object;I)V" } : Jvm.MethodName)) ∈ lw_all := lw_g (lw_at lw_m3 160 rfl) rfl
theorem q717 : (Jvm.Cond.code ({ cls := "java/util/ArrayList", name := "add", desc := "(Ljava/lang/Object;[Ljava/lang/Object;I)V" } : Jvm.MethodName) prog_58_method_24_code (4 : Nat) (Option.none : Option Jvm.ClassFile.FieldType)) ∈ lw_all := lw_g (lw_at lw_m3 161 rfl) rfl
theorem q718 : (Jvm.Cond.methodLink "java/util/ArrayList" (129 : Nat) ({ cls := "java/util/ArrayList", name := "grow", desc := "()[Ljava/lang/Object;" } : Jvm.MethodName)) ∈ lw_all := lw_g (lw_at lw_m3 162 rfl) rfl
theorem q719 : (Jvm.Cond.privateMethod ({ cls := "java/util/ArrayList", name := "grow", desc := "()[Ljava/lang/Object;" } : Jvm.MethodName)) ∈ lw_tbl := lw_at lw_m3 163 rfl
theorem q720 : (Jvm.Cond.instanceMethod ({ cls := "java/util/ArrayList", name := "grow", desc := "()[Ljava/lang/Object;" } : Jvm.MethodName)) ∈ lw_all := lw_g (lw_at lw_m3 164 rfl) rfl
theorem q721 : (Jvm.Cond.code ({ cls := "java/util/ArrayList", name := "grow", desc := "()[Ljava/lang/Object;" } : Jvm.MethodName) prog_58_method_7_code (1 : Nat) (Option.some (Jvm.ClassFile.FieldType.array (Jvm.ClassFile.FieldType.object "java/lang/Object")))) ∈ lw_all := lw_g (lw_at lw_m3 165 rfl) rfl
theorem q722 : (Jvm.Cond.methodLink "java/util/ArrayList" (69 : Nat) ({ cls := "java/util/ArrayList", name := "grow", desc := "(I)[Ljava/lang/Object;" } : Jvm.MethodName)) ∈ lw_all := lw_g (lw_at lw_m3 166 rfl) rfl
theorem q723 : (Jvm.Cond.privateMethod ({ cls := "java/util/ArrayList", name := "grow", desc := "(I)[Ljava/lang/Object;" } : Jvm.MethodName)) ∈ lw_tbl := lw_at lw_m3 167 rfl
theorem q724 : (Jvm.Cond.instanceMethod ({ cls := "java/util/ArrayList", name := "grow", desc := "(I)[Ljava/lang/Object;" } : Jvm.MethodName)) ∈ lw_all := lw_g (lw_at lw_m3 168 rfl) rfl
theorem q725 : (Jvm.Cond.code ({ cls := "java/util/ArrayList", name := "grow", desc := "(I)[Ljava/lang/Object;" } : Jvm.MethodName) prog_58_method_6_code (4 : Nat) (Option.some (Jvm.ClassFile.FieldType.array (Jvm.ClassFile.FieldType.object "java/lang/Object")))) ∈ lw_all := lw_g (lw_at lw_m3 169 rfl) rfl
theorem q726 : (Jvm.Cond.methodLink "java/util/ArrayList" (73 : Nat) ({ cls := "jdk/internal/util/ArraysSupport", name := "newLength", desc := "(III)I" } : Jvm.MethodName)) ∈ lw_all := lw_g (lw_at lw_m3 170 rfl) rfl
theorem q727 : (Jvm.Cond.methodLink "java/util/ArrayList" (66 : Nat) ({ cls := "java/util/Arrays", name := "copyOf", desc := "([Ljava/lang/Object;I)[Ljava/lang/Object;" } : Jvm.MethodName)) ∈ lw_all := lw_g (lw_at lw_m3 171 rfl) rfl
theorem q764 : (Jvm.Cond.selects "java/util/ArrayList" ({ cls := "java/lang/Object", name := "getClass", desc := "()Ljava/lang/Class;" } : Jvm.MethodName) ({ cls := "java/lang/Object", name := "getClass", desc := "()Ljava/lang/Class;" } : Jvm.MethodName)) ∈ lw_all := lw_g (lw_at lw_m3 208 rfl) rfl
theorem q790 : (Jvm.Cond.methodLink "java/util/ArrayList" (79 : Nat) ({ cls := "java/lang/Math", name := "max", desc := "(II)I" } : Jvm.MethodName)) ∈ lw_all := lw_g (lw_at lw_m3 234 rfl) rfl
theorem q791 : (Jvm.Cond.classLink "java/util/ArrayList" (7 : Nat) "java/lang/Object") ∈ lw_all := lw_g (lw_at lw_m3 235 rfl) rfl
theorem q802 : (Jvm.Cond.castable "java/util/ArrayList" "java/lang/Iterable") ∈ lw_tbl := lw_at lw_m4 6 rfl
theorem q803 : (Jvm.Cond.selects "java/util/ArrayList" ({ cls := "java/lang/Iterable", name := "iterator", desc := "()Ljava/util/Iterator;" } : Jvm.MethodName) ({ cls := "java/util/ArrayList", name := "iterator", desc := "()Ljava/util/Iterator;" } : Jvm.MethodName)) ∈ lw_all := lw_g (lw_at lw_m4 7 rfl) rfl
theorem q804 : (Jvm.Cond.unhidden "java/util/ArrayList" "iterator" "()Ljava/util/Iterator;") ∈ lw_tbl := lw_at lw_m4 8 rfl
theorem q805 : (Jvm.Cond.instanceMethod ({ cls := "java/util/ArrayList", name := "iterator", desc := "()Ljava/util/Iterator;" } : Jvm.MethodName)) ∈ lw_all := lw_g (lw_at lw_m4 9 rfl) rfl
theorem q806 : (Jvm.Cond.publicMethod ({ cls := "java/util/ArrayList", name := "iterator", desc := "()Ljava/util/Iterator;" } : Jvm.MethodName)) ∈ lw_tbl := lw_at lw_m4 10 rfl
theorem q807 : (Jvm.Cond.code ({ cls := "java/util/ArrayList", name := "iterator", desc := "()Ljava/util/Iterator;" } : Jvm.MethodName) prog_58_method_55_code (1 : Nat) (Option.some (Jvm.ClassFile.FieldType.object "java/util/Iterator"))) ∈ lw_all := lw_g (lw_at lw_m4 11 rfl) rfl
theorem q808 : (Jvm.Cond.classLink "java/util/ArrayList" (267 : Nat) "java/util/ArrayList$Itr") ∈ lw_all := lw_g (lw_at lw_m4 12 rfl) rfl
theorem q810 : (Jvm.Cond.methodLink "java/util/ArrayList" (269 : Nat) ({ cls := "java/util/ArrayList$Itr", name := "<init>", desc := "(Ljava/util/ArrayList;)V" } : Jvm.MethodName)) ∈ lw_all := lw_g (lw_at lw_m4 14 rfl) rfl
theorem q1093 : (Jvm.Cond.selects "java/util/ArrayList" ({ cls := "java/util/List", name := "get", desc := "(I)Ljava/lang/Object;" } : Jvm.MethodName) ({ cls := "java/util/ArrayList", name := "get", desc := "(I)Ljava/lang/Object;" } : Jvm.MethodName)) ∈ lw_all := lw_g (lw_at lw_m5 57 rfl) rfl
theorem q1094 : (Jvm.Cond.unhidden "java/util/ArrayList" "get" "(I)Ljava/lang/Object;") ∈ lw_tbl := lw_at lw_m5 58 rfl
theorem q1095 : (Jvm.Cond.instanceMethod ({ cls := "java/util/ArrayList", name := "get", desc := "(I)Ljava/lang/Object;" } : Jvm.MethodName)) ∈ lw_all := lw_g (lw_at lw_m5 59 rfl) rfl
theorem q1096 : (Jvm.Cond.publicMethod ({ cls := "java/util/ArrayList", name := "get", desc := "(I)Ljava/lang/Object;" } : Jvm.MethodName)) ∈ lw_tbl := lw_at lw_m5 60 rfl
theorem q1097 : (Jvm.Cond.code ({ cls := "java/util/ArrayList", name := "get", desc := "(I)Ljava/lang/Object;" } : Jvm.MethodName) prog_58_method_20_code (2 : Nat) (Option.some (Jvm.ClassFile.FieldType.object "java/lang/Object"))) ∈ lw_all := lw_g (lw_at lw_m5 61 rfl) rfl
theorem q1098 : (Jvm.Cond.methodLink "java/util/ArrayList" (118 : Nat) ({ cls := "java/util/Objects", name := "checkIndex", desc := "(II)I" } : Jvm.MethodName)) ∈ lw_all := lw_g (lw_at lw_m5 62 rfl) rfl
theorem q1104 : (Jvm.Cond.methodLink "java/util/ArrayList" (123 : Nat) ({ cls := "java/util/ArrayList", name := "elementData", desc := "(I)Ljava/lang/Object;" } : Jvm.MethodName)) ∈ lw_all := lw_g (lw_at lw_m5 68 rfl) rfl
theorem q1105 : (Jvm.Cond.instanceMethod ({ cls := "java/util/ArrayList", name := "elementData", desc := "(I)Ljava/lang/Object;" } : Jvm.MethodName)) ∈ lw_all := lw_g (lw_at lw_m5 69 rfl) rfl
theorem q1106 : (Jvm.Cond.selects "java/util/ArrayList" ({ cls := "java/util/ArrayList", name := "elementData", desc := "(I)Ljava/lang/Object;" } : Jvm.MethodName) ({ cls := "java/util/ArrayList", name := "elementData", desc := "(I)Ljava/lang/Object;" } : Jvm.MethodName)) ∈ lw_all := lw_g (lw_at lw_m5 70 rfl) rfl
theorem q1107 : (Jvm.Cond.code ({ cls := "java/util/ArrayList", name := "elementData", desc := "(I)Ljava/lang/Object;" } : Jvm.MethodName) prog_58_method_18_code (2 : Nat) (Option.some (Jvm.ClassFile.FieldType.object "java/lang/Object"))) ∈ lw_all := lw_g (lw_at lw_m5 71 rfl) rfl
theorem q1128 : (Jvm.Cond.selects "java/util/ArrayList" ({ cls := "java/util/List", name := "isEmpty", desc := "()Z" } : Jvm.MethodName) ({ cls := "java/util/ArrayList", name := "isEmpty", desc := "()Z" } : Jvm.MethodName)) ∈ lw_all := lw_g (lw_at lw_m5 92 rfl) rfl
theorem q1129 : (Jvm.Cond.unhidden "java/util/ArrayList" "isEmpty" "()Z") ∈ lw_tbl := lw_at lw_m5 93 rfl
theorem q1130 : (Jvm.Cond.instanceMethod ({ cls := "java/util/ArrayList", name := "isEmpty", desc := "()Z" } : Jvm.MethodName)) ∈ lw_all := lw_g (lw_at lw_m5 94 rfl) rfl
theorem q1131 : (Jvm.Cond.publicMethod ({ cls := "java/util/ArrayList", name := "isEmpty", desc := "()Z" } : Jvm.MethodName)) ∈ lw_tbl := lw_at lw_m5 95 rfl
theorem q1132 : (Jvm.Cond.code ({ cls := "java/util/ArrayList", name := "isEmpty", desc := "()Z" } : Jvm.MethodName) prog_58_method_9_code (1 : Nat) (Option.some Jvm.ClassFile.FieldType.boolean)) ∈ lw_all := lw_g (lw_at lw_m5 96 rfl) rfl
theorem q1156 : (Jvm.Cond.selects "java/util/ArrayList" ({ cls := "java/util/List", name := "iterator", desc := "()Ljava/util/Iterator;" } : Jvm.MethodName) ({ cls := "java/util/ArrayList", name := "iterator", desc := "()Ljava/util/Iterator;" } : Jvm.MethodName)) ∈ lw_all := lw_g (lw_at lw_m5 120 rfl) rfl
theorem q1194 : (Jvm.Cond.castable "java/util/ArrayList" "java/util/Collection") ∈ lw_tbl := lw_at lw_m5 158 rfl
theorem q1195 : (Jvm.Cond.selects "java/util/ArrayList" ({ cls := "java/util/Collection", name := "iterator", desc := "()Ljava/util/Iterator;" } : Jvm.MethodName) ({ cls := "java/util/ArrayList", name := "iterator", desc := "()Ljava/util/Iterator;" } : Jvm.MethodName)) ∈ lw_all := lw_g (lw_at lw_m5 159 rfl) rfl
theorem q2253 : (Jvm.Cond.instanceMethod ({ cls := "java/util/ArrayList", name := "remove", desc := "(I)Ljava/lang/Object;" } : Jvm.MethodName)) ∈ lw_all := lw_g (lw_at lw_m10 17 rfl) rfl
theorem q2254 : (Jvm.Cond.selects "java/util/ArrayList" ({ cls := "java/util/ArrayList", name := "remove", desc := "(I)Ljava/lang/Object;" } : Jvm.MethodName) ({ cls := "java/util/ArrayList", name := "remove", desc := "(I)Ljava/lang/Object;" } : Jvm.MethodName)) ∈ lw_all := lw_g (lw_at lw_m10 18 rfl) rfl
theorem q2255 : (Jvm.Cond.code ({ cls := "java/util/ArrayList", name := "remove", desc := "(I)Ljava/lang/Object;" } : Jvm.MethodName) prog_58_method_29_code (4 : Nat) (Option.some (Jvm.ClassFile.FieldType.object "java/lang/Object"))) ∈ lw_all := lw_g (lw_at lw_m10 19 rfl) rfl
theorem q2256 : (Jvm.Cond.methodLink "java/util/ArrayList" (144 : Nat) ({ cls := "java/util/ArrayList", name := "fastRemove", desc := "([Ljava/lang/Object;I)V" } : Jvm.MethodName)) ∈ lw_all := lw_g (lw_at lw_m10 20 rfl) rfl
theorem q2257 : (Jvm.Cond.privateMethod ({ cls := "java/util/ArrayList", name := "fastRemove", desc := "([Ljava/lang/Object;I)V" } : Jvm.MethodName)) ∈ lw_tbl := lw_at lw_m10 21 rfl
theorem q2258 : (Jvm.Cond.instanceMethod ({ cls := "java/util/ArrayList", name := "fastRemove", desc := "([Ljava/lang/Object;I)V" } : Jvm.MethodName)) ∈ lw_all := lw_g (lw_at lw_m10 22 rfl) rfl
theorem q2259 : (Jvm.Cond.code ({ cls := "java/util/ArrayList", name := "fastRemove", desc := "([Ljava/lang/Object;I)V" } : Jvm.MethodName) prog_58_method_39_code (4 : Nat) (Option.none : Option Jvm.ClassFile.FieldType)) ∈ lw_all := lw_g (lw_at lw_m10 23 rfl) rfl
theorem q2260 : (Jvm.Cond.methodLink "java/util/ArrayList" (112 : Nat) ({ cls := "java/lang/System", name := "arraycopy", desc := "(Ljava/lang/Object;ILjava/lang/Object;II)V" } : Jvm.MethodName)) ∈ lw_all := lw_g (lw_at lw_m10 24 rfl) rfl
theorem q2745 : (Jvm.Cond.selects "java/util/ArrayList" ({ cls := "java/util/List", name := "clear", desc := "()V" } : Jvm.MethodName) ({ cls := "java/util/ArrayList", name := "clear", desc := "()V" } : Jvm.MethodName)) ∈ lw_all := lw_g (lw_at lw_m12 29 rfl) rfl
theorem q2746 : (Jvm.Cond.unhidden "java/util/ArrayList" "clear" "()V") ∈ lw_tbl := lw_at lw_m12 30 rfl
theorem q2747 : (Jvm.Cond.instanceMethod ({ cls := "java/util/ArrayList", name := "clear", desc := "()V" } : Jvm.MethodName)) ∈ lw_all := lw_g (lw_at lw_m12 31 rfl) rfl
theorem q2748 : (Jvm.Cond.publicMethod ({ cls := "java/util/ArrayList", name := "clear", desc := "()V" } : Jvm.MethodName)) ∈ lw_tbl := lw_at lw_m12 32 rfl
theorem q2749 : (Jvm.Cond.code ({ cls := "java/util/ArrayList", name := "clear", desc := "()V" } : Jvm.MethodName) prog_58_method_40_code (4 : Nat) (Option.none : Option Jvm.ClassFile.FieldType)) ∈ lw_all := lw_g (lw_at lw_m12 33 rfl) rfl
theorem q2787 : (Jvm.Cond.selects "java/util/ArrayList" ({ cls := "java/util/List", name := "remove", desc := "(Ljava/lang/Object;)Z" } : Jvm.MethodName) ({ cls := "java/util/ArrayList", name := "remove", desc := "(Ljava/lang/Object;)Z" } : Jvm.MethodName)) ∈ lw_all := lw_g (lw_at lw_m12 71 rfl) rfl
theorem q2788 : (Jvm.Cond.unhidden "java/util/ArrayList" "remove" "(Ljava/lang/Object;)Z") ∈ lw_tbl := lw_at lw_m12 72 rfl
theorem q2789 : (Jvm.Cond.instanceMethod ({ cls := "java/util/ArrayList", name := "remove", desc := "(Ljava/lang/Object;)Z" } : Jvm.MethodName)) ∈ lw_all := lw_g (lw_at lw_m12 73 rfl) rfl
theorem q2790 : (Jvm.Cond.publicMethod ({ cls := "java/util/ArrayList", name := "remove", desc := "(Ljava/lang/Object;)Z" } : Jvm.MethodName)) ∈ lw_tbl := lw_at lw_m12 74 rfl
theorem q2791 : (Jvm.Cond.code ({ cls := "java/util/ArrayList", name := "remove", desc := "(Ljava/lang/Object;)Z" } : Jvm.MethodName) prog_58_method_38_code (5 : Nat) (Option.some Jvm.ClassFile.FieldType.boolean)) ∈ lw_all := lw_g (lw_at lw_m12 75 rfl) rfl
theorem q2792 : (Jvm.Cond.methodLink "java/util/ArrayList" (93 : Nat) ({ cls := "java/lang/Object", name := "equals", desc := "(Ljava/lang/Object;)Z" } : Jvm.MethodName)) ∈ lw_all := lw_g (lw_at lw_m12 76 rfl) rfl
theorem q3665 : (Jvm.Cond.selects "java/util/ArrayList" ({ cls := "java/util/ArrayList", name := "size", desc := "()I" } : Jvm.MethodName) ({ cls := "java/util/ArrayList", name := "size", desc := "()I" } : Jvm.MethodName)) ∈ lw_all := lw_g (lw_at lw_m15 229 rfl) rfl
theorem q3666 : (Jvm.Cond.selects "java/util/ArrayList" ({ cls := "java/util/ArrayList", name := "add", desc := "(Ljava/lang/Object;)Z" } : Jvm.MethodName) ({ cls := "java/util/ArrayList", name := "add", desc := "(Ljava/lang/Object;)Z" } : Jvm.MethodName)) ∈ lw_all := lw_g (lw_at lw_m15 230 rfl) rfl
theorem q3667 : (Jvm.Cond.selects "java/util/ArrayList" ({ cls := "java/util/ArrayList", name := "get", desc := "(I)Ljava/lang/Object;" } : Jvm.MethodName) ({ cls := "java/util/ArrayList", name := "get", desc := "(I)Ljava/lang/Object;" } : Jvm.MethodName)) ∈ lw_all := lw_g (lw_at lw_m15 231 rfl) rfl
theorem q3668 : (Jvm.Cond.selects "java/util/ArrayList" ({ cls := "java/util/ArrayList", name := "iterator", desc := "()Ljava/util/Iterator;" } : Jvm.MethodName) ({ cls := "java/util/ArrayList", name := "iterator", desc := "()Ljava/util/Iterator;" } : Jvm.MethodName)) ∈ lw_all := lw_g (lw_at lw_m15 232 rfl) rfl
theorem q3669 : (Jvm.Cond.selects "java/util/ArrayList" ({ cls := "java/util/ArrayList", name := "isEmpty", desc := "()Z" } : Jvm.MethodName) ({ cls := "java/util/ArrayList", name := "isEmpty", desc := "()Z" } : Jvm.MethodName)) ∈ lw_all := lw_g (lw_at lw_m15 233 rfl) rfl
theorem q3670 : (Jvm.Cond.selects "java/util/ArrayList" ({ cls := "java/util/ArrayList", name := "clear", desc := "()V" } : Jvm.MethodName) ({ cls := "java/util/ArrayList", name := "clear", desc := "()V" } : Jvm.MethodName)) ∈ lw_all := lw_g (lw_at lw_m15 234 rfl) rfl
theorem q3680 : (Jvm.Cond.castable "java/util/ArrayList" "java/lang/Object") ∈ lw_tbl := lw_at lw_m16 4 rfl
theorem in_J2 : ∀ w ∈ wsJ20, w ∈ lw_all := lw_in wsJ20 [191, 187, 189] (by decide +kernel) (by decide +kernel)
/-! java/util/AbstractMap -/
def RJ3 : String := "java/util/AbstractMap"
abbrev cJ3_init : ByteArray := prog_56_method_1_code
def yJ3_init : MethodName := ⟨RJ3, "<init>", "()V"⟩
theorem dJ3_init_0 : decode cJ3_init 0 = .ok (.aload_n 0, 1) := by decide +kernel
theorem dJ3_init_1 : decode cJ3_init 1 = .ok (.invokespecial 1, 3) := by decide +kernel
theorem dJ3_init_4 : decode cJ3_init 4 = .ok (.return_, 1) := by decide +kernel
abbrev cJ3_putAll : ByteArray := prog_56_method_9_code
def yJ3_putAll : MethodName := ⟨RJ3, "putAll", "(Ljava/util/Map;)V"⟩
def dkwJ3_putAll_2 : List UInt8 := [182, 0, 55, 87, 167, 255, 220, 177]
abbrev dktJ3_putAll_2 : List UInt8 := dkwJ3_putAll_2 ++ []
def dkwJ3_putAll_1 : List UInt8 := [185, 0, 30, 1, 0, 192, 0, 34, 78, 42, 45, 185, 0, 43, 1, 0, 45, 185, 0, 36, 1, 0]
abbrev dktJ3_putAll_1 : List UInt8 := dkwJ3_putAll_1 ++ dktJ3_putAll_2
def dkwJ3_putAll_0 : List UInt8 := [43, 185, 0, 52, 1, 0, 185, 0, 20, 1, 0, 77, 44, 185, 0, 24, 1, 0, 153, 0, 33, 44]
abbrev dktJ3_putAll_0 : List UInt8 := dkwJ3_putAll_0 ++ dktJ3_putAll_1
theorem dksJ3_putAll_0 : cJ3_putAll.data.toList.drop 0 = dktJ3_putAll_0 := by decide +kernel
theorem dksJ3_putAll_1 : cJ3_putAll.data.toList.drop 22 = dktJ3_putAll_1 := dk_seg dksJ3_putAll_0 22 rfl rfl
theorem dksJ3_putAll_2 : cJ3_putAll.data.toList.drop 44 = dktJ3_putAll_2 := dk_seg dksJ3_putAll_1 22 rfl rfl
theorem dJ3_putAll_0 : decode cJ3_putAll 0 = .ok (.aload_n 1, 1) := dk_43 (dk_at dksJ3_putAll_0 0 rfl rfl)
theorem dJ3_putAll_1 : decode cJ3_putAll 1 = .ok (.invokeinterface 52 1, 5) := by decide +kernel
theorem dJ3_putAll_6 : decode cJ3_putAll 6 = .ok (.invokeinterface 20 1, 5) := by decide +kernel
theorem dJ3_putAll_11 : decode cJ3_putAll 11 = .ok (.astore_n 2, 1) := dk_77 (dk_at dksJ3_putAll_0 11 rfl rfl)
theorem dJ3_putAll_12 : decode cJ3_putAll 12 = .ok (.aload_n 2, 1) := dk_44 (dk_at dksJ3_putAll_0 12 rfl rfl)
theorem dJ3_putAll_13 : decode cJ3_putAll 13 = .ok (.invokeinterface 24 1, 5) := by decide +kernel
theorem dJ3_putAll_18 : decode cJ3_putAll 18 = .ok (.ifCond .eq 33, 3) := dk_153 0 33 (dk_at dksJ3_putAll_0 18 rfl rfl)
theorem dJ3_putAll_21 : decode cJ3_putAll 21 = .ok (.aload_n 2, 1) := dk_44 (dk_at dksJ3_putAll_0 21 rfl rfl)
theorem dJ3_putAll_22 : decode cJ3_putAll 22 = .ok (.invokeinterface 30 1, 5) := by decide +kernel
theorem dJ3_putAll_27 : decode cJ3_putAll 27 = .ok (.checkcast 34, 3) := dk_192 0 34 (dk_at dksJ3_putAll_1 5 rfl rfl)
theorem dJ3_putAll_30 : decode cJ3_putAll 30 = .ok (.astore_n 3, 1) := dk_78 (dk_at dksJ3_putAll_1 8 rfl rfl)
theorem dJ3_putAll_31 : decode cJ3_putAll 31 = .ok (.aload_n 0, 1) := dk_42 (dk_at dksJ3_putAll_1 9 rfl rfl)
theorem dJ3_putAll_32 : decode cJ3_putAll 32 = .ok (.aload_n 3, 1) := dk_45 (dk_at dksJ3_putAll_1 10 rfl rfl)
theorem dJ3_putAll_33 : decode cJ3_putAll 33 = .ok (.invokeinterface 43 1, 5) := by decide +kernel
theorem dJ3_putAll_38 : decode cJ3_putAll 38 = .ok (.aload_n 3, 1) := dk_45 (dk_at dksJ3_putAll_1 16 rfl rfl)
theorem dJ3_putAll_39 : decode cJ3_putAll 39 = .ok (.invokeinterface 36 1, 5) := by decide +kernel
theorem dJ3_putAll_44 : decode cJ3_putAll 44 = .ok (.invokevirtual 55, 3) := dk_182 0 55 (dk_at dksJ3_putAll_2 0 rfl rfl)
theorem dJ3_putAll_47 : decode cJ3_putAll 47 = .ok (.pop, 1) := dk_87 (dk_at dksJ3_putAll_2 3 rfl rfl)
theorem dJ3_putAll_48 : decode cJ3_putAll 48 = .ok (.goto (-36), 3) := dk_167 255 220 (dk_at dksJ3_putAll_2 4 rfl rfl)
theorem dJ3_putAll_51 : decode cJ3_putAll 51 = .ok (.return_, 1) := dk_177 (dk_at dksJ3_putAll_2 7 rfl rfl)
theorem q82 : (Jvm.Cond.initialized "java/util/AbstractMap") ∈ lw_all := lw_g (lw_at lw_m1 6 rfl) rfl
theorem q200 : (Jvm.Cond.instanceMethod ({ cls := "java/util/AbstractMap", name := "<init>", desc := "()V" } : Jvm.MethodName)) ∈ lw_all := lw_g (lw_at lw_m1 124 rfl) rfl
theorem q201 : (Jvm.Cond.code ({ cls := "java/util/AbstractMap", name := "<init>", desc := "()V" } : Jvm.MethodName) prog_56_method_1_code (1 : Nat) (Option.none : Option Jvm.ClassFile.FieldType)) ∈ lw_all := lw_g (lw_at lw_m1 125 rfl) rfl
theorem q202 : (Jvm.Cond.methodLink "java/util/AbstractMap" (1 : Nat) ({ cls := "java/lang/Object", name := "<init>", desc := "()V" } : Jvm.MethodName)) ∈ lw_all := lw_g (lw_at lw_m1 126 rfl) rfl
theorem q228 : (Jvm.Cond.soleField "java/util/AbstractMap" "keySet") ∈ lw_all := lw_g (lw_at lw_m1 152 rfl) rfl
theorem q230 : (Jvm.Cond.soleField "java/util/AbstractMap" "values") ∈ lw_all := lw_g (lw_at lw_m1 154 rfl) rfl
theorem q2713 : (Jvm.Cond.instanceMethod ({ cls := "java/util/AbstractMap", name := "putAll", desc := "(Ljava/util/Map;)V" } : Jvm.MethodName)) ∈ lw_all := lw_g (lw_at lw_m11 237 rfl) rfl
theorem q2714 : (Jvm.Cond.code ({ cls := "java/util/AbstractMap", name := "putAll", desc := "(Ljava/util/Map;)V" } : Jvm.MethodName) prog_56_method_9_code (4 : Nat) (Option.none : Option Jvm.ClassFile.FieldType)) ∈ lw_all := lw_g (lw_at lw_m11 238 rfl) rfl
theorem q2715 : (Jvm.Cond.interfaceEntry "java/util/AbstractMap" (52 : Nat)) ∈ lw_tbl := lw_at lw_m11 239 rfl
theorem q2716 : (Jvm.Cond.methodLink "java/util/AbstractMap" (52 : Nat) ({ cls := "java/util/Map", name := "entrySet", desc := "()Ljava/util/Set;" } : Jvm.MethodName)) ∈ lw_all := lw_g (lw_at lw_m12 0 rfl) rfl
theorem q2717 : (Jvm.Cond.interfaceEntry "java/util/AbstractMap" (20 : Nat)) ∈ lw_tbl := lw_at lw_m12 1 rfl
theorem q2718 : (Jvm.Cond.methodLink "java/util/AbstractMap" (20 : Nat) ({ cls := "java/util/Set", name := "iterator", desc := "()Ljava/util/Iterator;" } : Jvm.MethodName)) ∈ lw_all := lw_g (lw_at lw_m12 2 rfl) rfl
theorem q2719 : (Jvm.Cond.interfaceEntry "java/util/AbstractMap" (24 : Nat)) ∈ lw_tbl := lw_at lw_m12 3 rfl
theorem q2720 : (Jvm.Cond.methodLink "java/util/AbstractMap" (24 : Nat) ({ cls := "java/util/Iterator", name := "hasNext", desc := "()Z" } : Jvm.MethodName)) ∈ lw_all := lw_g (lw_at lw_m12 4 rfl) rfl
theorem q2721 : (Jvm.Cond.interfaceEntry "java/util/AbstractMap" (30 : Nat)) ∈ lw_tbl := lw_at lw_m12 5 rfl
theorem q2722 : (Jvm.Cond.methodLink "java/util/AbstractMap" (30 : Nat) ({ cls := "java/util/Iterator", name := "next", desc := "()Ljava/lang/Object;" } : Jvm.MethodName)) ∈ lw_all := lw_g (lw_at lw_m12 6 rfl) rfl
theorem q2723 : (Jvm.Cond.classLink "java/util/AbstractMap" (34 : Nat) "java/util/Map$Entry") ∈ lw_all := lw_g (lw_at lw_m12 7 rfl) rfl
theorem q2724 : (Jvm.Cond.interfaceEntry "java/util/AbstractMap" (43 : Nat)) ∈ lw_tbl := lw_at lw_m12 8 rfl
theorem q2725 : (Jvm.Cond.methodLink "java/util/AbstractMap" (43 : Nat) ({ cls := "java/util/Map$Entry", name := "getKey", desc := "()Ljava/lang/Object;" } : Jvm.MethodName)) ∈ lw_all := lw_g (lw_at lw_m12 9 rfl) rfl
theorem q2726 : (Jvm.Cond.interfaceEntry "java/util/AbstractMap" (36 : Nat)) ∈ lw_tbl := lw_at lw_m12 10 rfl
theorem q2727 : (Jvm.Cond.methodLink "java/util/AbstractMap" (36 : Nat) ({ cls := "java/util/Map$Entry", name := "getValue", desc := "()Ljava/lang/Object;" } : Jvm.MethodName)) ∈ lw_all := lw_g (lw_at lw_m12 11 rfl) rfl
theorem q2728 : (Jvm.Cond.methodLink "java/util/AbstractMap" (55 : Nat) ({ cls := "java/util/AbstractMap", name := "put", desc := "(Ljava/lang/Object;Ljava/lang/Object;)Ljava/lang/Object;" } : Jvm.MethodName)) ∈ lw_all := lw_g (lw_at lw_m12 12 rfl) rfl
theorem q2729 : (Jvm.Cond.instanceMethod ({ cls := "java/util/AbstractMap", name := "put", desc := "(Ljava/lang/Object;Ljava/lang/Object;)Ljava/lang/Object;" } : Jvm.MethodName)) ∈ lw_all := lw_g (lw_at lw_m12 13 rfl) rfl
theorem q2730 : (Jvm.Cond.sameMethod "java/util/AbstractMap" "java/util/AbstractMap" "put" "(Ljava/lang/Object;Ljava/lang/Object;)Ljava/lang/Object;") ∈ lw_all := lw_g (lw_at lw_m12 14 rfl) rfl
theorem q2733 : (Jvm.Cond.declares ({ cls := "java/util/AbstractMap", name := "put", desc := "(Ljava/lang/Object;Ljava/lang/Object;)Ljava/lang/Object;" } : Jvm.MethodName)) ∈ lw_tbl := lw_at lw_m12 17 rfl
theorem q3664 : (Jvm.Cond.sameMethod "java/util/AbstractMap" "java/util/AbstractMap" "putAll" "(Ljava/util/Map;)V") ∈ lw_all := lw_g (lw_at lw_m15 228 rfl) rfl
/-! java/util/HashMap -/
def RJ4 : String := "java/util/HashMap"
def TJ4 : u_T := fun k => match k with
  | 0 => ("java/util/AbstractMap", "keySet", "Ljava/util/Set;", false)
  | 1 => ("java/util/AbstractMap", "values", "Ljava/util/Collection;", false)
  | 2 => ("java/util/HashMap", "table", "[Ljava/util/HashMap$Node;", false)
  | 3 => ("java/util/HashMap", "entrySet", "Ljava/util/Set;", false)
  | 4 => ("java/util/HashMap", "size", "I", false)
  | 5 => ("java/util/HashMap", "modCount", "I", false)
  | 6 => ("java/util/HashMap", "threshold", "I", false)
  | _ => ("java/util/HashMap", "loadFactor", "F", true)
def tyJ4 : Nat → FieldType := fun k => match k with
  | 0 => .object "java/util/Set"
  | 1 => .object "java/util/Collection"
  | 2 => .array (.object "java/util/HashMap$Node")
  | 3 => .object "java/util/Set"
  | 4 => .int
  | 5 => .int
  | 6 => .int
  | _ => .float
abbrev wsJ40 : List Cond := u_ws RJ4 TJ4 8
theorem nmJ4 : ∀ a, a < 8 → ∀ b, b < 8 → a ≠ b → (TJ4 a).2.1 ≠ (TJ4 b).2.1 := by decide +kernel
theorem tyJ4_ok : ∀ k, k < 8 → parseFieldDescriptor (TJ4 k).2.2.1 = some (tyJ4 k) := by decide +kernel
abbrev cJ4_init : ByteArray := prog_65_method_7_code
def yJ4_init : MethodName := ⟨RJ4, "<init>", "()V"⟩
def dkwJ4_init_0 : List UInt8 := [42, 183, 0, 43, 42, 18, 92, 181, 0, 81, 177]
abbrev dktJ4_init_0 : List UInt8 := dkwJ4_init_0 ++ []
theorem dksJ4_init_0 : cJ4_init.data.toList.drop 0 = dktJ4_init_0 := by decide +kernel
theorem dJ4_init_0 : decode cJ4_init 0 = .ok (.aload_n 0, 1) := dk_42 (dk_at dksJ4_init_0 0 rfl rfl)
theorem dJ4_init_1 : decode cJ4_init 1 = .ok (.invokespecial 43, 3) := dk_183 0 43 (dk_at dksJ4_init_0 1 rfl rfl)
theorem dJ4_init_4 : decode cJ4_init 4 = .ok (.aload_n 0, 1) := dk_42 (dk_at dksJ4_init_0 4 rfl rfl)
theorem dJ4_init_5 : decode cJ4_init 5 = .ok (.ldc 92, 2) := dk_18 92 (dk_at dksJ4_init_0 5 rfl rfl)
theorem dJ4_init_7 : decode cJ4_init 7 = .ok (.putfield 81, 3) := dk_181 0 81 (dk_at dksJ4_init_0 7 rfl rfl)
theorem dJ4_init_10 : decode cJ4_init 10 = .ok (.return_, 1) := dk_177 (dk_at dksJ4_init_0 10 rfl rfl)
abbrev cJ4_get : ByteArray := prog_65_method_12_code
def yJ4_get : MethodName := ⟨RJ4, "get", "(Ljava/lang/Object;)Ljava/lang/Object;"⟩
def dkwJ4_get_0 : List UInt8 := [42, 43, 182, 0, 158, 89, 77, 199, 0, 7, 1, 167, 0, 7, 44, 180, 0, 162, 176]
abbrev dktJ4_get_0 : List UInt8 := dkwJ4_get_0 ++ []
theorem dksJ4_get_0 : cJ4_get.data.toList.drop 0 = dktJ4_get_0 := by decide +kernel
theorem dJ4_get_0 : decode cJ4_get 0 = .ok (.aload_n 0, 1) := dk_42 (dk_at dksJ4_get_0 0 rfl rfl)
theorem dJ4_get_1 : decode cJ4_get 1 = .ok (.aload_n 1, 1) := dk_43 (dk_at dksJ4_get_0 1 rfl rfl)
theorem dJ4_get_2 : decode cJ4_get 2 = .ok (.invokevirtual 158, 3) := dk_182 0 158 (dk_at dksJ4_get_0 2 rfl rfl)
theorem dJ4_get_5 : decode cJ4_get 5 = .ok (.dup, 1) := dk_89 (dk_at dksJ4_get_0 5 rfl rfl)
theorem dJ4_get_6 : decode cJ4_get 6 = .ok (.astore_n 2, 1) := dk_77 (dk_at dksJ4_get_0 6 rfl rfl)
theorem dJ4_get_7 : decode cJ4_get 7 = .ok (.ifnonnull 7, 3) := dk_199 0 7 (dk_at dksJ4_get_0 7 rfl rfl)
theorem dJ4_get_10 : decode cJ4_get 10 = .ok (.aconst_null, 1) := dk_1 (dk_at dksJ4_get_0 10 rfl rfl)
theorem dJ4_get_11 : decode cJ4_get 11 = .ok (.goto 7, 3) := dk_167 0 7 (dk_at dksJ4_get_0 11 rfl rfl)
theorem dJ4_get_14 : decode cJ4_get 14 = .ok (.aload_n 2, 1) := dk_44 (dk_at dksJ4_get_0 14 rfl rfl)
theorem dJ4_get_15 : decode cJ4_get 15 = .ok (.getfield 162, 3) := dk_180 0 162 (dk_at dksJ4_get_0 15 rfl rfl)
theorem dJ4_get_18 : decode cJ4_get 18 = .ok (.areturn, 1) := dk_176 (dk_at dksJ4_get_0 18 rfl rfl)
abbrev cJ4_getNode : ByteArray := prog_65_method_13_code
def yJ4_getNode : MethodName := ⟨RJ4, "getNode", "(Ljava/lang/Object;)Ljava/util/HashMap$Node;"⟩
def dkwJ4_getNode_6 : List UInt8 := [89, 58, 4, 199, 255, 210, 1, 176]
abbrev dktJ4_getNode_6 : List UInt8 := dkwJ4_getNode_6 ++ []
def dkwJ4_getNode_5 : List UInt8 := [165, 0, 16, 43, 198, 0, 15, 43, 25, 7, 182, 0, 173, 153, 0, 6, 25, 4, 176, 25, 4, 180, 0, 177]
abbrev dktJ4_getNode_5 : List UInt8 := dkwJ4_getNode_5 ++ dktJ4_getNode_6
def dkwJ4_getNode_4 : List UInt8 := [43, 182, 0, 182, 176, 25, 4, 180, 0, 168, 21, 6, 160, 0, 31, 25, 4, 180, 0, 170, 89, 58, 7, 43]
abbrev dktJ4_getNode_4 : List UInt8 := dkwJ4_getNode_4 ++ dktJ4_getNode_5
def dkwJ4_getNode_3 : List UInt8 := [176, 45, 180, 0, 177, 89, 58, 4, 198, 0, 70, 45, 193, 0, 180, 153, 0, 14, 45, 192, 0, 180, 21, 6]
abbrev dktJ4_getNode_3 : List UInt8 := dkwJ4_getNode_3 ++ dktJ4_getNode_4
def dkwJ4_getNode_2 : List UInt8 := [180, 0, 170, 89, 58, 7, 43, 165, 0, 16, 43, 198, 0, 14, 43, 25, 7, 182, 0, 173, 153, 0, 5, 45]
abbrev dktJ4_getNode_2 : List UInt8 := dkwJ4_getNode_2 ++ dktJ4_getNode_3
def dkwJ4_getNode_1 : List UInt8 := [184, 0, 149, 89, 54, 6, 126, 50, 89, 78, 198, 0, 115, 45, 180, 0, 168, 21, 6, 160, 0, 29, 45]
abbrev dktJ4_getNode_1 : List UInt8 := dkwJ4_getNode_1 ++ dktJ4_getNode_2
def dkwJ4_getNode_0 : List UInt8 := [42, 180, 0, 105, 89, 77, 198, 0, 142, 44, 190, 89, 54, 5, 158, 0, 134, 44, 21, 5, 4, 100, 43]
abbrev dktJ4_getNode_0 : List UInt8 := dkwJ4_getNode_0 ++ dktJ4_getNode_1
theorem dksJ4_getNode_0 : cJ4_getNode.data.toList.drop 0 = dktJ4_getNode_0 := by decide +kernel
theorem dksJ4_getNode_1 : cJ4_getNode.data.toList.drop 23 = dktJ4_getNode_1 := dk_seg dksJ4_getNode_0 23 rfl rfl
theorem dksJ4_getNode_2 : cJ4_getNode.data.toList.drop 46 = dktJ4_getNode_2 := dk_seg dksJ4_getNode_1 23 rfl rfl
theorem dksJ4_getNode_3 : cJ4_getNode.data.toList.drop 70 = dktJ4_getNode_3 := dk_seg dksJ4_getNode_2 24 rfl rfl
theorem dksJ4_getNode_4 : cJ4_getNode.data.toList.drop 94 = dktJ4_getNode_4 := dk_seg dksJ4_getNode_3 24 rfl rfl
theorem dksJ4_getNode_5 : cJ4_getNode.data.toList.drop 118 = dktJ4_getNode_5 := dk_seg dksJ4_getNode_4 24 rfl rfl
theorem dksJ4_getNode_6 : cJ4_getNode.data.toList.drop 142 = dktJ4_getNode_6 := dk_seg dksJ4_getNode_5 24 rfl rfl
theorem dJ4_getNode_0 : decode cJ4_getNode 0 = .ok (.aload_n 0, 1) := dk_42 (dk_at dksJ4_getNode_0 0 rfl rfl)
theorem dJ4_getNode_1 : decode cJ4_getNode 1 = .ok (.getfield 105, 3) := dk_180 0 105 (dk_at dksJ4_getNode_0 1 rfl rfl)
theorem dJ4_getNode_4 : decode cJ4_getNode 4 = .ok (.dup, 1) := dk_89 (dk_at dksJ4_getNode_0 4 rfl rfl)
theorem dJ4_getNode_5 : decode cJ4_getNode 5 = .ok (.astore_n 2, 1) := dk_77 (dk_at dksJ4_getNode_0 5 rfl rfl)
theorem dJ4_getNode_6 : decode cJ4_getNode 6 = .ok (.ifnull 142, 3) := dk_198 0 142 (dk_at dksJ4_getNode_0 6 rfl rfl)
theorem dJ4_getNode_9 : decode cJ4_getNode 9 = .ok (.aload_n 2, 1) := dk_44 (dk_at dksJ4_getNode_0 9 rfl rfl)
theorem dJ4_getNode_10 : decode cJ4_getNode 10 = .ok (.arraylength, 1) := dk_190 (dk_at dksJ4_getNode_0 10 rfl rfl)
theorem dJ4_getNode_11 : decode cJ4_getNode 11 = .ok (.dup, 1) := dk_89 (dk_at dksJ4_getNode_0 11 rfl rfl)
theorem dJ4_getNode_12 : decode cJ4_getNode 12 = .ok (.istore 5, 2) := dk_54 5 (dk_at dksJ4_getNode_0 12 rfl rfl)
theorem dJ4_getNode_14 : decode cJ4_getNode 14 = .ok (.ifCond .le 134, 3) := dk_158 0 134 (dk_at dksJ4_getNode_0 14 rfl rfl)
theorem dJ4_getNode_17 : decode cJ4_getNode 17 = .ok (.aload_n 2, 1) := dk_44 (dk_at dksJ4_getNode_0 17 rfl rfl)
theorem dJ4_getNode_18 : decode cJ4_getNode 18 = .ok (.iload 5, 2) := dk_21 5 (dk_at dksJ4_getNode_0 18 rfl rfl)
theorem dJ4_getNode_20 : decode cJ4_getNode 20 = .ok (.iconst 1, 1) := dk_4 (dk_at dksJ4_getNode_0 20 rfl rfl)
theorem dJ4_getNode_21 : decode cJ4_getNode 21 = .ok (.isub, 1) := dk_100 (dk_at dksJ4_getNode_0 21 rfl rfl)
theorem dJ4_getNode_22 : decode cJ4_getNode 22 = .ok (.aload_n 1, 1) := dk_43 (dk_at dksJ4_getNode_0 22 rfl rfl)
theorem dJ4_getNode_23 : decode cJ4_getNode 23 = .ok (.invokestatic 149, 3) := dk_184 0 149 (dk_at dksJ4_getNode_1 0 rfl rfl)
theorem dJ4_getNode_26 : decode cJ4_getNode 26 = .ok (.dup, 1) := dk_89 (dk_at dksJ4_getNode_1 3 rfl rfl)
theorem dJ4_getNode_27 : decode cJ4_getNode 27 = .ok (.istore 6, 2) := dk_54 6 (dk_at dksJ4_getNode_1 4 rfl rfl)
theorem dJ4_getNode_29 : decode cJ4_getNode 29 = .ok (.iand, 1) := dk_126 (dk_at dksJ4_getNode_1 6 rfl rfl)
theorem dJ4_getNode_30 : decode cJ4_getNode 30 = .ok (.aaload, 1) := dk_50 (dk_at dksJ4_getNode_1 7 rfl rfl)
theorem dJ4_getNode_31 : decode cJ4_getNode 31 = .ok (.dup, 1) := dk_89 (dk_at dksJ4_getNode_1 8 rfl rfl)
theorem dJ4_getNode_32 : decode cJ4_getNode 32 = .ok (.astore_n 3, 1) := dk_78 (dk_at dksJ4_getNode_1 9 rfl rfl)
theorem dJ4_getNode_33 : decode cJ4_getNode 33 = .ok (.ifnull 115, 3) := dk_198 0 115 (dk_at dksJ4_getNode_1 10 rfl rfl)
theorem dJ4_getNode_36 : decode cJ4_getNode 36 = .ok (.aload_n 3, 1) := dk_45 (dk_at dksJ4_getNode_1 13 rfl rfl)
theorem dJ4_getNode_37 : decode cJ4_getNode 37 = .ok (.getfield 168, 3) := dk_180 0 168 (dk_at dksJ4_getNode_1 14 rfl rfl)
theorem dJ4_getNode_40 : decode cJ4_getNode 40 = .ok (.iload 6, 2) := dk_21 6 (dk_at dksJ4_getNode_1 17 rfl rfl)
theorem dJ4_getNode_42 : decode cJ4_getNode 42 = .ok (.if_icmp .ne 29, 3) := dk_160 0 29 (dk_at dksJ4_getNode_1 19 rfl rfl)
theorem dJ4_getNode_45 : decode cJ4_getNode 45 = .ok (.aload_n 3, 1) := dk_45 (dk_at dksJ4_getNode_1 22 rfl rfl)
theorem dJ4_getNode_46 : decode cJ4_getNode 46 = .ok (.getfield 170, 3) := dk_180 0 170 (dk_at dksJ4_getNode_2 0 rfl rfl)
theorem dJ4_getNode_49 : decode cJ4_getNode 49 = .ok (.dup, 1) := dk_89 (dk_at dksJ4_getNode_2 3 rfl rfl)
theorem dJ4_getNode_50 : decode cJ4_getNode 50 = .ok (.astore 7, 2) := dk_58 7 (dk_at dksJ4_getNode_2 4 rfl rfl)
theorem dJ4_getNode_52 : decode cJ4_getNode 52 = .ok (.aload_n 1, 1) := dk_43 (dk_at dksJ4_getNode_2 6 rfl rfl)
theorem dJ4_getNode_53 : decode cJ4_getNode 53 = .ok (.if_acmp .eq 16, 3) := dk_165 0 16 (dk_at dksJ4_getNode_2 7 rfl rfl)
theorem dJ4_getNode_56 : decode cJ4_getNode 56 = .ok (.aload_n 1, 1) := dk_43 (dk_at dksJ4_getNode_2 10 rfl rfl)
theorem dJ4_getNode_57 : decode cJ4_getNode 57 = .ok (.ifnull 14, 3) := dk_198 0 14 (dk_at dksJ4_getNode_2 11 rfl rfl)
theorem dJ4_getNode_60 : decode cJ4_getNode 60 = .ok (.aload_n 1, 1) := dk_43 (dk_at dksJ4_getNode_2 14 rfl rfl)
theorem dJ4_getNode_61 : decode cJ4_getNode 61 = .ok (.aload 7, 2) := dk_25 7 (dk_at dksJ4_getNode_2 15 rfl rfl)
theorem dJ4_getNode_63 : decode cJ4_getNode 63 = .ok (.invokevirtual 173, 3) := dk_182 0 173 (dk_at dksJ4_getNode_2 17 rfl rfl)
theorem dJ4_getNode_66 : decode cJ4_getNode 66 = .ok (.ifCond .eq 5, 3) := dk_153 0 5 (dk_at dksJ4_getNode_2 20 rfl rfl)
theorem dJ4_getNode_69 : decode cJ4_getNode 69 = .ok (.aload_n 3, 1) := dk_45 (dk_at dksJ4_getNode_2 23 rfl rfl)
theorem dJ4_getNode_70 : decode cJ4_getNode 70 = .ok (.areturn, 1) := dk_176 (dk_at dksJ4_getNode_3 0 rfl rfl)
theorem dJ4_getNode_71 : decode cJ4_getNode 71 = .ok (.aload_n 3, 1) := dk_45 (dk_at dksJ4_getNode_3 1 rfl rfl)
theorem dJ4_getNode_72 : decode cJ4_getNode 72 = .ok (.getfield 177, 3) := dk_180 0 177 (dk_at dksJ4_getNode_3 2 rfl rfl)
theorem dJ4_getNode_75 : decode cJ4_getNode 75 = .ok (.dup, 1) := dk_89 (dk_at dksJ4_getNode_3 5 rfl rfl)
theorem dJ4_getNode_76 : decode cJ4_getNode 76 = .ok (.astore 4, 2) := dk_58 4 (dk_at dksJ4_getNode_3 6 rfl rfl)
theorem dJ4_getNode_78 : decode cJ4_getNode 78 = .ok (.ifnull 70, 3) := dk_198 0 70 (dk_at dksJ4_getNode_3 8 rfl rfl)
theorem dJ4_getNode_81 : decode cJ4_getNode 81 = .ok (.aload_n 3, 1) := dk_45 (dk_at dksJ4_getNode_3 11 rfl rfl)
theorem dJ4_getNode_82 : decode cJ4_getNode 82 = .ok (.instanceof 180, 3) := dk_193 0 180 (dk_at dksJ4_getNode_3 12 rfl rfl)
theorem dJ4_getNode_85 : decode cJ4_getNode 85 = .ok (.ifCond .eq 14, 3) := dk_153 0 14 (dk_at dksJ4_getNode_3 15 rfl rfl)
theorem dJ4_getNode_88 : decode cJ4_getNode 88 = .ok (.aload_n 3, 1) := dk_45 (dk_at dksJ4_getNode_3 18 rfl rfl)
theorem dJ4_getNode_89 : decode cJ4_getNode 89 = .ok (.checkcast 180, 3) := dk_192 0 180 (dk_at dksJ4_getNode_3 19 rfl rfl)
theorem dJ4_getNode_92 : decode cJ4_getNode 92 = .ok (.iload 6, 2) := dk_21 6 (dk_at dksJ4_getNode_3 22 rfl rfl)
theorem dJ4_getNode_94 : decode cJ4_getNode 94 = .ok (.aload_n 1, 1) := dk_43 (dk_at dksJ4_getNode_4 0 rfl rfl)
theorem dJ4_getNode_95 : decode cJ4_getNode 95 = .ok (.invokevirtual 182, 3) := dk_182 0 182 (dk_at dksJ4_getNode_4 1 rfl rfl)
theorem dJ4_getNode_98 : decode cJ4_getNode 98 = .ok (.areturn, 1) := dk_176 (dk_at dksJ4_getNode_4 4 rfl rfl)
theorem dJ4_getNode_99 : decode cJ4_getNode 99 = .ok (.aload 4, 2) := dk_25 4 (dk_at dksJ4_getNode_4 5 rfl rfl)
theorem dJ4_getNode_101 : decode cJ4_getNode 101 = .ok (.getfield 168, 3) := dk_180 0 168 (dk_at dksJ4_getNode_4 7 rfl rfl)
theorem dJ4_getNode_104 : decode cJ4_getNode 104 = .ok (.iload 6, 2) := dk_21 6 (dk_at dksJ4_getNode_4 10 rfl rfl)
theorem dJ4_getNode_106 : decode cJ4_getNode 106 = .ok (.if_icmp .ne 31, 3) := dk_160 0 31 (dk_at dksJ4_getNode_4 12 rfl rfl)
theorem dJ4_getNode_109 : decode cJ4_getNode 109 = .ok (.aload 4, 2) := dk_25 4 (dk_at dksJ4_getNode_4 15 rfl rfl)
theorem dJ4_getNode_111 : decode cJ4_getNode 111 = .ok (.getfield 170, 3) := dk_180 0 170 (dk_at dksJ4_getNode_4 17 rfl rfl)
theorem dJ4_getNode_114 : decode cJ4_getNode 114 = .ok (.dup, 1) := dk_89 (dk_at dksJ4_getNode_4 20 rfl rfl)
theorem dJ4_getNode_115 : decode cJ4_getNode 115 = .ok (.astore 7, 2) := dk_58 7 (dk_at dksJ4_getNode_4 21 rfl rfl)
theorem dJ4_getNode_117 : decode cJ4_getNode 117 = .ok (.aload_n 1, 1) := dk_43 (dk_at dksJ4_getNode_4 23 rfl rfl)
theorem dJ4_getNode_118 : decode cJ4_getNode 118 = .ok (.if_acmp .eq 16, 3) := dk_165 0 16 (dk_at dksJ4_getNode_5 0 rfl rfl)
theorem dJ4_getNode_121 : decode cJ4_getNode 121 = .ok (.aload_n 1, 1) := dk_43 (dk_at dksJ4_getNode_5 3 rfl rfl)
theorem dJ4_getNode_122 : decode cJ4_getNode 122 = .ok (.ifnull 15, 3) := dk_198 0 15 (dk_at dksJ4_getNode_5 4 rfl rfl)
theorem dJ4_getNode_125 : decode cJ4_getNode 125 = .ok (.aload_n 1, 1) := dk_43 (dk_at dksJ4_getNode_5 7 rfl rfl)
theorem dJ4_getNode_126 : decode cJ4_getNode 126 = .ok (.aload 7, 2) := dk_25 7 (dk_at dksJ4_getNode_5 8 rfl rfl)
theorem dJ4_getNode_128 : decode cJ4_getNode 128 = .ok (.invokevirtual 173, 3) := dk_182 0 173 (dk_at dksJ4_getNode_5 10 rfl rfl)
theorem dJ4_getNode_131 : decode cJ4_getNode 131 = .ok (.ifCond .eq 6, 3) := dk_153 0 6 (dk_at dksJ4_getNode_5 13 rfl rfl)
theorem dJ4_getNode_134 : decode cJ4_getNode 134 = .ok (.aload 4, 2) := dk_25 4 (dk_at dksJ4_getNode_5 16 rfl rfl)
theorem dJ4_getNode_136 : decode cJ4_getNode 136 = .ok (.areturn, 1) := dk_176 (dk_at dksJ4_getNode_5 18 rfl rfl)
theorem dJ4_getNode_137 : decode cJ4_getNode 137 = .ok (.aload 4, 2) := dk_25 4 (dk_at dksJ4_getNode_5 19 rfl rfl)
theorem dJ4_getNode_139 : decode cJ4_getNode 139 = .ok (.getfield 177, 3) := dk_180 0 177 (dk_at dksJ4_getNode_5 21 rfl rfl)
theorem dJ4_getNode_142 : decode cJ4_getNode 142 = .ok (.dup, 1) := dk_89 (dk_at dksJ4_getNode_6 0 rfl rfl)
theorem dJ4_getNode_143 : decode cJ4_getNode 143 = .ok (.astore 4, 2) := dk_58 4 (dk_at dksJ4_getNode_6 1 rfl rfl)
theorem dJ4_getNode_145 : decode cJ4_getNode 145 = .ok (.ifnonnull (-46), 3) := dk_199 255 210 (dk_at dksJ4_getNode_6 3 rfl rfl)
theorem dJ4_getNode_148 : decode cJ4_getNode 148 = .ok (.aconst_null, 1) := dk_1 (dk_at dksJ4_getNode_6 6 rfl rfl)
theorem dJ4_getNode_149 : decode cJ4_getNode 149 = .ok (.areturn, 1) := dk_176 (dk_at dksJ4_getNode_6 7 rfl rfl)
abbrev cJ4_hash : ByteArray := prog_65_method_1_code
def yJ4_hash : MethodName := ⟨RJ4, "hash", "(Ljava/lang/Object;)I"⟩
def dkwJ4_hash_0 : List UInt8 := [42, 199, 0, 7, 3, 167, 0, 14, 42, 182, 0, 1, 89, 60, 27, 16, 16, 124, 130, 172]
abbrev dktJ4_hash_0 : List UInt8 := dkwJ4_hash_0 ++ []
theorem dksJ4_hash_0 : cJ4_hash.data.toList.drop 0 = dktJ4_hash_0 := by decide +kernel
theorem dJ4_hash_0 : decode cJ4_hash 0 = .ok (.aload_n 0, 1) := dk_42 (dk_at dksJ4_hash_0 0 rfl rfl)
theorem dJ4_hash_1 : decode cJ4_hash 1 = .ok (.ifnonnull 7, 3) := dk_199 0 7 (dk_at dksJ4_hash_0 1 rfl rfl)
theorem dJ4_hash_4 : decode cJ4_hash 4 = .ok (.iconst 0, 1) := dk_3 (dk_at dksJ4_hash_0 4 rfl rfl)
theorem dJ4_hash_5 : decode cJ4_hash 5 = .ok (.goto 14, 3) := dk_167 0 14 (dk_at dksJ4_hash_0 5 rfl rfl)
theorem dJ4_hash_8 : decode cJ4_hash 8 = .ok (.aload_n 0, 1) := dk_42 (dk_at dksJ4_hash_0 8 rfl rfl)
theorem dJ4_hash_9 : decode cJ4_hash 9 = .ok (.invokevirtual 1, 3) := dk_182 0 1 (dk_at dksJ4_hash_0 9 rfl rfl)
theorem dJ4_hash_12 : decode cJ4_hash 12 = .ok (.dup, 1) := dk_89 (dk_at dksJ4_hash_0 12 rfl rfl)
theorem dJ4_hash_13 : decode cJ4_hash 13 = .ok (.istore_n 1, 1) := dk_60 (dk_at dksJ4_hash_0 13 rfl rfl)
theorem dJ4_hash_14 : decode cJ4_hash 14 = .ok (.iload_n 1, 1) := dk_27 (dk_at dksJ4_hash_0 14 rfl rfl)
theorem dJ4_hash_15 : decode cJ4_hash 15 = .ok (.bipush 16, 2) := dk_16 16 (dk_at dksJ4_hash_0 15 rfl rfl)
theorem dJ4_hash_17 : decode cJ4_hash 17 = .ok (.iushr, 1) := dk_124 (dk_at dksJ4_hash_0 17 rfl rfl)
theorem dJ4_hash_18 : decode cJ4_hash 18 = .ok (.ixor, 1) := dk_130 (dk_at dksJ4_hash_0 18 rfl rfl)
theorem dJ4_hash_19 : decode cJ4_hash 19 = .ok (.ireturn, 1) := dk_172 (dk_at dksJ4_hash_0 19 rfl rfl)
abbrev cJ4_comparableClassFor : ByteArray := prog_65_method_2_code
def yJ4_comparableClassFor : MethodName := ⟨RJ4, "comparableClassFor", "(Ljava/lang/Object;)Ljava/lang/Class;"⟩
def dkwJ4_comparableClassFor_4 : List UInt8 := [4, 160, 0, 12, 45, 3, 50, 43, 166, 0, 5, 43, 176, 132, 7, 1, 167, 255, 186, 1, 176]
abbrev dktJ4_comparableClassFor_4 : List UInt8 := dkwJ4_comparableClassFor_4 ++ []
def dkwJ4_comparableClassFor_3 : List UInt8 := [185, 0, 23, 1, 0, 18, 7, 166, 0, 30, 25, 4, 185, 0, 27, 1, 0, 89, 78, 198, 0, 18, 45, 190]
abbrev dktJ4_comparableClassFor_3 : List UInt8 := dkwJ4_comparableClassFor_3 ++ dktJ4_comparableClassFor_4
def dkwJ4_comparableClassFor_2 : List UInt8 := [25, 5, 21, 7, 50, 58, 8, 25, 8, 193, 0, 21, 153, 0, 48, 25, 8, 192, 0, 21, 89, 58, 4]
abbrev dktJ4_comparableClassFor_2 : List UInt8 := dkwJ4_comparableClassFor_2 ++ dktJ4_comparableClassFor_3
def dkwJ4_comparableClassFor_1 : List UInt8 := [89, 77, 198, 0, 87, 44, 58, 5, 25, 5, 190, 54, 6, 3, 54, 7, 21, 7, 21, 6, 162, 0, 69]
abbrev dktJ4_comparableClassFor_1 : List UInt8 := dkwJ4_comparableClassFor_1 ++ dktJ4_comparableClassFor_2
def dkwJ4_comparableClassFor_0 : List UInt8 := [42, 193, 0, 7, 153, 0, 109, 42, 182, 0, 9, 89, 76, 18, 13, 166, 0, 5, 43, 176, 43, 182, 0, 15]
abbrev dktJ4_comparableClassFor_0 : List UInt8 := dkwJ4_comparableClassFor_0 ++ dktJ4_comparableClassFor_1
theorem dksJ4_comparableClassFor_0 : cJ4_comparableClassFor.data.toList.drop 0 = dktJ4_comparableClassFor_0 := by decide +kernel
theorem dksJ4_comparableClassFor_1 : cJ4_comparableClassFor.data.toList.drop 24 = dktJ4_comparableClassFor_1 := dk_seg dksJ4_comparableClassFor_0 24 rfl rfl
theorem dksJ4_comparableClassFor_2 : cJ4_comparableClassFor.data.toList.drop 47 = dktJ4_comparableClassFor_2 := dk_seg dksJ4_comparableClassFor_1 23 rfl rfl
theorem dksJ4_comparableClassFor_3 : cJ4_comparableClassFor.data.toList.drop 70 = dktJ4_comparableClassFor_3 := dk_seg dksJ4_comparableClassFor_2 23 rfl rfl
theorem dksJ4_comparableClassFor_4 : cJ4_comparableClassFor.data.toList.drop 94 = dktJ4_comparableClassFor_4 := dk_seg dksJ4_comparableClassFor_3 24 rfl rfl
theorem dJ4_comparableClassFor_0 : decode cJ4_comparableClassFor 0 = .ok (.aload_n 0, 1) := dk_42 (dk_at dksJ4_comparableClassFor_0 0 rfl rfl)
theorem dJ4_comparableClassFor_1 : decode cJ4_comparableClassFor 1 = .ok (.instanceof 7, 3) := dk_193 0 7 (dk_at dksJ4_comparableClassFor_0 1 rfl rfl)
theorem dJ4_comparableClassFor_4 : decode cJ4_comparableClassFor 4 = .ok (.ifCond .eq 109, 3) := dk_153 0 109 (dk_at dksJ4_comparableClassFor_0 4 rfl rfl)
theorem dJ4_comparableClassFor_7 : decode cJ4_comparableClassFor 7 = .ok (.aload_n 0, 1) := dk_42 (dk_at dksJ4_comparableClassFor_0 7 rfl rfl)
theorem dJ4_comparableClassFor_8 : decode cJ4_comparableClassFor 8 = .ok (.invokevirtual 9, 3) := dk_182 0 9 (dk_at dksJ4_comparableClassFor_0 8 rfl rfl)
theorem dJ4_comparableClassFor_11 : decode cJ4_comparableClassFor 11 = .ok (.dup, 1) := dk_89 (dk_at dksJ4_comparableClassFor_0 11 rfl rfl)
theorem dJ4_comparableClassFor_12 : decode cJ4_comparableClassFor 12 = .ok (.astore_n 1, 1) := dk_76 (dk_at dksJ4_comparableClassFor_0 12 rfl rfl)
theorem dJ4_comparableClassFor_13 : decode cJ4_comparableClassFor 13 = .ok (.ldc 13, 2) := dk_18 13 (dk_at dksJ4_comparableClassFor_0 13 rfl rfl)
theorem dJ4_comparableClassFor_15 : decode cJ4_comparableClassFor 15 = .ok (.if_acmp .ne 5, 3) := dk_166 0 5 (dk_at dksJ4_comparableClassFor_0 15 rfl rfl)
theorem dJ4_comparableClassFor_18 : decode cJ4_comparableClassFor 18 = .ok (.aload_n 1, 1) := dk_43 (dk_at dksJ4_comparableClassFor_0 18 rfl rfl)
theorem dJ4_comparableClassFor_19 : decode cJ4_comparableClassFor 19 = .ok (.areturn, 1) := dk_176 (dk_at dksJ4_comparableClassFor_0 19 rfl rfl)
theorem dJ4_comparableClassFor_20 : decode cJ4_comparableClassFor 20 = .ok (.aload_n 1, 1) := dk_43 (dk_at dksJ4_comparableClassFor_0 20 rfl rfl)
theorem dJ4_comparableClassFor_21 : decode cJ4_comparableClassFor 21 = .ok (.invokevirtual 15, 3) := dk_182 0 15 (dk_at dksJ4_comparableClassFor_0 21 rfl rfl)
theorem dJ4_comparableClassFor_24 : decode cJ4_comparableClassFor 24 = .ok (.dup, 1) := dk_89 (dk_at dksJ4_comparableClassFor_1 0 rfl rfl)
theorem dJ4_comparableClassFor_25 : decode cJ4_comparableClassFor 25 = .ok (.astore_n 2, 1) := dk_77 (dk_at dksJ4_comparableClassFor_1 1 rfl rfl)
theorem dJ4_comparableClassFor_26 : decode cJ4_comparableClassFor 26 = .ok (.ifnull 87, 3) := dk_198 0 87 (dk_at dksJ4_comparableClassFor_1 2 rfl rfl)
theorem dJ4_comparableClassFor_29 : decode cJ4_comparableClassFor 29 = .ok (.aload_n 2, 1) := dk_44 (dk_at dksJ4_comparableClassFor_1 5 rfl rfl)
theorem dJ4_comparableClassFor_30 : decode cJ4_comparableClassFor 30 = .ok (.astore 5, 2) := dk_58 5 (dk_at dksJ4_comparableClassFor_1 6 rfl rfl)
theorem dJ4_comparableClassFor_32 : decode cJ4_comparableClassFor 32 = .ok (.aload 5, 2) := dk_25 5 (dk_at dksJ4_comparableClassFor_1 8 rfl rfl)
theorem dJ4_comparableClassFor_34 : decode cJ4_comparableClassFor 34 = .ok (.arraylength, 1) := dk_190 (dk_at dksJ4_comparableClassFor_1 10 rfl rfl)
theorem dJ4_comparableClassFor_35 : decode cJ4_comparableClassFor 35 = .ok (.istore 6, 2) := dk_54 6 (dk_at dksJ4_comparableClassFor_1 11 rfl rfl)
theorem dJ4_comparableClassFor_37 : decode cJ4_comparableClassFor 37 = .ok (.iconst 0, 1) := dk_3 (dk_at dksJ4_comparableClassFor_1 13 rfl rfl)
theorem dJ4_comparableClassFor_38 : decode cJ4_comparableClassFor 38 = .ok (.istore 7, 2) := dk_54 7 (dk_at dksJ4_comparableClassFor_1 14 rfl rfl)
theorem dJ4_comparableClassFor_40 : decode cJ4_comparableClassFor 40 = .ok (.iload 7, 2) := dk_21 7 (dk_at dksJ4_comparableClassFor_1 16 rfl rfl)
theorem dJ4_comparableClassFor_42 : decode cJ4_comparableClassFor 42 = .ok (.iload 6, 2) := dk_21 6 (dk_at dksJ4_comparableClassFor_1 18 rfl rfl)
theorem dJ4_comparableClassFor_44 : decode cJ4_comparableClassFor 44 = .ok (.if_icmp .ge 69, 3) := dk_162 0 69 (dk_at dksJ4_comparableClassFor_1 20 rfl rfl)
theorem dJ4_comparableClassFor_47 : decode cJ4_comparableClassFor 47 = .ok (.aload 5, 2) := dk_25 5 (dk_at dksJ4_comparableClassFor_2 0 rfl rfl)
theorem dJ4_comparableClassFor_49 : decode cJ4_comparableClassFor 49 = .ok (.iload 7, 2) := dk_21 7 (dk_at dksJ4_comparableClassFor_2 2 rfl rfl)
theorem dJ4_comparableClassFor_51 : decode cJ4_comparableClassFor 51 = .ok (.aaload, 1) := dk_50 (dk_at dksJ4_comparableClassFor_2 4 rfl rfl)
theorem dJ4_comparableClassFor_52 : decode cJ4_comparableClassFor 52 = .ok (.astore 8, 2) := dk_58 8 (dk_at dksJ4_comparableClassFor_2 5 rfl rfl)
theorem dJ4_comparableClassFor_54 : decode cJ4_comparableClassFor 54 = .ok (.aload 8, 2) := dk_25 8 (dk_at dksJ4_comparableClassFor_2 7 rfl rfl)
theorem dJ4_comparableClassFor_56 : decode cJ4_comparableClassFor 56 = .ok (.instanceof 21, 3) := dk_193 0 21 (dk_at dksJ4_comparableClassFor_2 9 rfl rfl)
theorem dJ4_comparableClassFor_59 : decode cJ4_comparableClassFor 59 = .ok (.ifCond .eq 48, 3) := dk_153 0 48 (dk_at dksJ4_comparableClassFor_2 12 rfl rfl)
theorem dJ4_comparableClassFor_62 : decode cJ4_comparableClassFor 62 = .ok (.aload 8, 2) := dk_25 8 (dk_at dksJ4_comparableClassFor_2 15 rfl rfl)
theorem dJ4_comparableClassFor_64 : decode cJ4_comparableClassFor 64 = .ok (.checkcast 21, 3) := dk_192 0 21 (dk_at dksJ4_comparableClassFor_2 17 rfl rfl)
theorem dJ4_comparableClassFor_67 : decode cJ4_comparableClassFor 67 = .ok (.dup, 1) := dk_89 (dk_at dksJ4_comparableClassFor_2 20 rfl rfl)
theorem dJ4_comparableClassFor_68 : decode cJ4_comparableClassFor 68 = .ok (.astore 4, 2) := dk_58 4 (dk_at dksJ4_comparableClassFor_2 21 rfl rfl)
theorem dJ4_comparableClassFor_70 : decode cJ4_comparableClassFor 70 = .ok (.invokeinterface 23 1, 5) := by decide +kernel
theorem dJ4_comparableClassFor_75 : decode cJ4_comparableClassFor 75 = .ok (.ldc 7, 2) := dk_18 7 (dk_at dksJ4_comparableClassFor_3 5 rfl rfl)
theorem dJ4_comparableClassFor_77 : decode cJ4_comparableClassFor 77 = .ok (.if_acmp .ne 30, 3) := dk_166 0 30 (dk_at dksJ4_comparableClassFor_3 7 rfl rfl)
theorem dJ4_comparableClassFor_80 : decode cJ4_comparableClassFor 80 = .ok (.aload 4, 2) := dk_25 4 (dk_at dksJ4_comparableClassFor_3 10 rfl rfl)
theorem dJ4_comparableClassFor_82 : decode cJ4_comparableClassFor 82 = .ok (.invokeinterface 27 1, 5) := by decide +kernel
theorem dJ4_comparableClassFor_87 : decode cJ4_comparableClassFor 87 = .ok (.dup, 1) := dk_89 (dk_at dksJ4_comparableClassFor_3 17 rfl rfl)
theorem dJ4_comparableClassFor_88 : decode cJ4_comparableClassFor 88 = .ok (.astore_n 3, 1) := dk_78 (dk_at dksJ4_comparableClassFor_3 18 rfl rfl)
theorem dJ4_comparableClassFor_89 : decode cJ4_comparableClassFor 89 = .ok (.ifnull 18, 3) := dk_198 0 18 (dk_at dksJ4_comparableClassFor_3 19 rfl rfl)
theorem dJ4_comparableClassFor_92 : decode cJ4_comparableClassFor 92 = .ok (.aload_n 3, 1) := dk_45 (dk_at dksJ4_comparableClassFor_3 22 rfl rfl)
theorem dJ4_comparableClassFor_93 : decode cJ4_comparableClassFor 93 = .ok (.arraylength, 1) := dk_190 (dk_at dksJ4_comparableClassFor_3 23 rfl rfl)
theorem dJ4_comparableClassFor_94 : decode cJ4_comparableClassFor 94 = .ok (.iconst 1, 1) := dk_4 (dk_at dksJ4_comparableClassFor_4 0 rfl rfl)
theorem dJ4_comparableClassFor_95 : decode cJ4_comparableClassFor 95 = .ok (.if_icmp .ne 12, 3) := dk_160 0 12 (dk_at dksJ4_comparableClassFor_4 1 rfl rfl)
theorem dJ4_comparableClassFor_98 : decode cJ4_comparableClassFor 98 = .ok (.aload_n 3, 1) := dk_45 (dk_at dksJ4_comparableClassFor_4 4 rfl rfl)
theorem dJ4_comparableClassFor_99 : decode cJ4_comparableClassFor 99 = .ok (.iconst 0, 1) := dk_3 (dk_at dksJ4_comparableClassFor_4 5 rfl rfl)
theorem dJ4_comparableClassFor_100 : decode cJ4_comparableClassFor 100 = .ok (.aaload, 1) := dk_50 (dk_at dksJ4_comparableClassFor_4 6 rfl rfl)
theorem dJ4_comparableClassFor_101 : decode cJ4_comparableClassFor 101 = .ok (.aload_n 1, 1) := dk_43 (dk_at dksJ4_comparableClassFor_4 7 rfl rfl)
theorem dJ4_comparableClassFor_102 : decode cJ4_comparableClassFor 102 = .ok (.if_acmp .ne 5, 3) := dk_166 0 5 (dk_at dksJ4_comparableClassFor_4 8 rfl rfl)
theorem dJ4_comparableClassFor_105 : decode cJ4_comparableClassFor 105 = .ok (.aload_n 1, 1) := dk_43 (dk_at dksJ4_comparableClassFor_4 11 rfl rfl)
theorem dJ4_comparableClassFor_106 : decode cJ4_comparableClassFor 106 = .ok (.areturn, 1) := dk_176 (dk_at dksJ4_comparableClassFor_4 12 rfl rfl)
theorem dJ4_comparableClassFor_107 : decode cJ4_comparableClassFor 107 = .ok (.iinc 7 1, 3) := dk_132 7 1 (dk_at dksJ4_comparableClassFor_4 13 rfl rfl)
theorem dJ4_comparableClassFor_110 : decode cJ4_comparableClassFor 110 = .ok (.goto (-70), 3) := dk_167 255 186 (dk_at dksJ4_comparableClassFor_4 16 rfl rfl)
theorem dJ4_comparableClassFor_113 : decode cJ4_comparableClassFor 113 = .ok (.aconst_null, 1) := dk_1 (dk_at dksJ4_comparableClassFor_4 19 rfl rfl)
theorem dJ4_comparableClassFor_114 : decode cJ4_comparableClassFor 114 = .ok (.areturn, 1) := dk_176 (dk_at dksJ4_comparableClassFor_4 20 rfl rfl)
abbrev cJ4_compareComparables : ByteArray := prog_65_method_3_code
def yJ4_compareComparables : MethodName := ⟨RJ4, "compareComparables", "(Ljava/lang/Class;Ljava/lang/Object;Ljava/lang/Object;)I"⟩
def dkwJ4_compareComparables_1 : List UInt8 := [185, 0, 30, 2, 0, 172]
abbrev dktJ4_compareComparables_1 : List UInt8 := dkwJ4_compareComparables_1 ++ []
def dkwJ4_compareComparables_0 : List UInt8 := [44, 198, 0, 11, 44, 182, 0, 9, 42, 165, 0, 7, 3, 167, 0, 13, 43, 192, 0, 7, 44]
abbrev dktJ4_compareComparables_0 : List UInt8 := dkwJ4_compareComparables_0 ++ dktJ4_compareComparables_1
theorem dksJ4_compareComparables_0 : cJ4_compareComparables.data.toList.drop 0 = dktJ4_compareComparables_0 := by decide +kernel
theorem dksJ4_compareComparables_1 : cJ4_compareComparables.data.toList.drop 21 = dktJ4_compareComparables_1 := dk_seg dksJ4_compareComparables_0 21 rfl rfl
theorem dJ4_compareComparables_0 : decode cJ4_compareComparables 0 = .ok (.aload_n 2, 1) := dk_44 (dk_at dksJ4_compareComparables_0 0 rfl rfl)
theorem dJ4_compareComparables_1 : decode cJ4_compareComparables 1 = .ok (.ifnull 11, 3) := dk_198 0 11 (dk_at dksJ4_compareComparables_0 1 rfl rfl)
theorem dJ4_compareComparables_4 : decode cJ4_compareComparables 4 = .ok (.aload_n 2, 1) := dk_44 (dk_at dksJ4_compareComparables_0 4 rfl rfl)
theorem dJ4_compareComparables_5 : decode cJ4_compareComparables 5 = .ok (.invokevirtual 9, 3) := dk_182 0 9 (dk_at dksJ4_compareComparables_0 5 rfl rfl)
theorem dJ4_compareComparables_8 : decode cJ4_compareComparables 8 = .ok (.aload_n 0, 1) := dk_42 (dk_at dksJ4_compareComparables_0 8 rfl rfl)
theorem dJ4_compareComparables_9 : decode cJ4_compareComparables 9 = .ok (.if_acmp .eq 7, 3) := dk_165 0 7 (dk_at dksJ4_compareComparables_0 9 rfl rfl)
theorem dJ4_compareComparables_12 : decode cJ4_compareComparables 12 = .ok (.iconst 0, 1) := dk_3 (dk_at dksJ4_compareComparables_0 12 rfl rfl)
theorem dJ4_compareComparables_13 : decode cJ4_compareComparables 13 = .ok (.goto 13, 3) := dk_167 0 13 (dk_at dksJ4_compareComparables_0 13 rfl rfl)
theorem dJ4_compareComparables_16 : decode cJ4_compareComparables 16 = .ok (.aload_n 1, 1) := dk_43 (dk_at dksJ4_compareComparables_0 16 rfl rfl)
theorem dJ4_compareComparables_17 : decode cJ4_compareComparables 17 = .ok (.checkcast 7, 3) := dk_192 0 7 (dk_at dksJ4_compareComparables_0 17 rfl rfl)
theorem dJ4_compareComparables_20 : decode cJ4_compareComparables 20 = .ok (.aload_n 2, 1) := dk_44 (dk_at dksJ4_compareComparables_0 20 rfl rfl)
theorem dJ4_compareComparables_21 : decode cJ4_compareComparables 21 = .ok (.invokeinterface 30 2, 5) := by decide +kernel
theorem dJ4_compareComparables_26 : decode cJ4_compareComparables 26 = .ok (.ireturn, 1) := dk_172 (dk_at dksJ4_compareComparables_1 5 rfl rfl)
abbrev cJ4_put : ByteArray := prog_65_method_15_code
def yJ4_put : MethodName := ⟨RJ4, "put", "(Ljava/lang/Object;Ljava/lang/Object;)Ljava/lang/Object;"⟩
def dkwJ4_put_0 : List UInt8 := [42, 43, 184, 0, 149, 43, 44, 3, 4, 182, 0, 152, 176]
abbrev dktJ4_put_0 : List UInt8 := dkwJ4_put_0 ++ []
theorem dksJ4_put_0 : cJ4_put.data.toList.drop 0 = dktJ4_put_0 := by decide +kernel
theorem dJ4_put_0 : decode cJ4_put 0 = .ok (.aload_n 0, 1) := dk_42 (dk_at dksJ4_put_0 0 rfl rfl)
theorem dJ4_put_1 : decode cJ4_put 1 = .ok (.aload_n 1, 1) := dk_43 (dk_at dksJ4_put_0 1 rfl rfl)
theorem dJ4_put_2 : decode cJ4_put 2 = .ok (.invokestatic 149, 3) := dk_184 0 149 (dk_at dksJ4_put_0 2 rfl rfl)
theorem dJ4_put_5 : decode cJ4_put 5 = .ok (.aload_n 1, 1) := dk_43 (dk_at dksJ4_put_0 5 rfl rfl)
theorem dJ4_put_6 : decode cJ4_put 6 = .ok (.aload_n 2, 1) := dk_44 (dk_at dksJ4_put_0 6 rfl rfl)
theorem dJ4_put_7 : decode cJ4_put 7 = .ok (.iconst 0, 1) := dk_3 (dk_at dksJ4_put_0 7 rfl rfl)
theorem dJ4_put_8 : decode cJ4_put 8 = .ok (.iconst 1, 1) := dk_4 (dk_at dksJ4_put_0 8 rfl rfl)
theorem dJ4_put_9 : decode cJ4_put 9 = .ok (.invokevirtual 152, 3) := dk_182 0 152 (dk_at dksJ4_put_0 9 rfl rfl)
theorem dJ4_put_12 : decode cJ4_put 12 = .ok (.areturn, 1) := dk_176 (dk_at dksJ4_put_0 12 rfl rfl)
abbrev cJ4_putVal : ByteArray := prog_65_method_16_code
def yJ4_putVal : MethodName := ⟨RJ4, "putVal", "(ILjava/lang/Object;Ljava/lang/Object;ZZ)Ljava/lang/Object;"⟩
def dkwJ4_putVal_12 : List UInt8 := [181, 0, 156, 42, 180, 0, 88, 164, 0, 8, 42, 182, 0, 117, 87, 42, 21, 5, 182, 0, 205, 1, 176]
abbrev dktJ4_putVal_12 : List UInt8 := dkwJ4_putVal_12 ++ []
def dkwJ4_putVal_11 : List UInt8 := [182, 0, 198, 25, 12, 176, 42, 89, 180, 0, 202, 4, 96, 181, 0, 202, 42, 89, 180, 0, 156, 4, 96, 90]
abbrev dktJ4_putVal_11 : List UInt8 := dkwJ4_putVal_11 ++ dktJ4_putVal_12
def dkwJ4_putVal_10 : List UInt8 := [180, 0, 162, 58, 12, 21, 4, 153, 0, 8, 25, 12, 199, 0, 9, 25, 10, 45, 181, 0, 162, 42, 25, 10]
abbrev dktJ4_putVal_10 : List UInt8 := dkwJ4_putVal_10 ++ dktJ4_putVal_11
def dkwJ4_putVal_9 : List UInt8 := [153, 0, 6, 167, 0, 13, 25, 10, 58, 7, 132, 12, 1, 167, 255, 171, 25, 10, 198, 0, 35, 25, 10]
abbrev dktJ4_putVal_9 : List UInt8 := dkwJ4_putVal_9 ++ dktJ4_putVal_10
def dkwJ4_putVal_8 : List UInt8 := [25, 10, 180, 0, 170, 89, 58, 11, 44, 165, 0, 29, 44, 198, 0, 15, 44, 25, 11, 182, 0, 173]
abbrev dktJ4_putVal_8 : List UInt8 := dkwJ4_putVal_8 ++ dktJ4_putVal_9
def dkwJ4_putVal_7 : List UInt8 := [16, 7, 161, 0, 60, 42, 25, 6, 27, 182, 0, 194, 167, 0, 50, 25, 10, 180, 0, 168, 27, 160, 0, 31]
abbrev dktJ4_putVal_7 : List UInt8 := dkwJ4_putVal_7 ++ dktJ4_putVal_8
def dkwJ4_putVal_6 : List UInt8 := [180, 0, 177, 89, 58, 10, 199, 0, 33, 25, 7, 42, 27, 44, 45, 1, 182, 0, 186, 181, 0, 177, 21, 12]
abbrev dktJ4_putVal_6 : List UInt8 := dkwJ4_putVal_6 ++ dktJ4_putVal_7
def dkwJ4_putVal_5 : List UInt8 := [192, 0, 180, 42, 25, 6, 27, 44, 45, 182, 0, 190, 58, 10, 167, 0, 94, 3, 54, 12, 25, 7]
abbrev dktJ4_putVal_5 : List UInt8 := dkwJ4_putVal_5 ++ dktJ4_putVal_6
def dkwJ4_putVal_4 : List UInt8 := [182, 0, 173, 153, 0, 10, 25, 7, 58, 10, 167, 0, 121, 25, 7, 193, 0, 180, 153, 0, 22, 25, 7]
abbrev dktJ4_putVal_4 : List UInt8 := dkwJ4_putVal_4 ++ dktJ4_putVal_5
def dkwJ4_putVal_3 : List UInt8 := [160, 0, 35, 25, 7, 180, 0, 170, 89, 58, 11, 44, 165, 0, 16, 44, 198, 0, 19, 44, 25, 11]
abbrev dktJ4_putVal_3 : List UInt8 := dkwJ4_putVal_3 ++ dktJ4_putVal_4
def dkwJ4_putVal_2 : List UInt8 := [25, 6, 21, 9, 42, 27, 44, 45, 1, 182, 0, 186, 83, 167, 0, 199, 25, 7, 180, 0, 168, 27]
abbrev dktJ4_putVal_2 : List UInt8 := dkwJ4_putVal_2 ++ dktJ4_putVal_3
def dkwJ4_putVal_1 : List UInt8 := [58, 6, 190, 54, 8, 25, 6, 21, 8, 4, 100, 27, 126, 89, 54, 9, 50, 89, 58, 7, 199, 0, 19]
abbrev dktJ4_putVal_1 : List UInt8 := dkwJ4_putVal_1 ++ dktJ4_putVal_2
def dkwJ4_putVal_0 : List UInt8 := [42, 180, 0, 105, 89, 58, 6, 198, 0, 12, 25, 6, 190, 89, 54, 8, 154, 0, 13, 42, 182, 0, 117, 89]
abbrev dktJ4_putVal_0 : List UInt8 := dkwJ4_putVal_0 ++ dktJ4_putVal_1
theorem dksJ4_putVal_0 : cJ4_putVal.data.toList.drop 0 = dktJ4_putVal_0 := by decide +kernel
theorem dksJ4_putVal_1 : cJ4_putVal.data.toList.drop 24 = dktJ4_putVal_1 := dk_seg dksJ4_putVal_0 24 rfl rfl
theorem dksJ4_putVal_2 : cJ4_putVal.data.toList.drop 47 = dktJ4_putVal_2 := dk_seg dksJ4_putVal_1 23 rfl rfl
theorem dksJ4_putVal_3 : cJ4_putVal.data.toList.drop 69 = dktJ4_putVal_3 := dk_seg dksJ4_putVal_2 22 rfl rfl
theorem dksJ4_putVal_4 : cJ4_putVal.data.toList.drop 91 = dktJ4_putVal_4 := dk_seg dksJ4_putVal_3 22 rfl rfl
theorem dksJ4_putVal_5 : cJ4_putVal.data.toList.drop 114 = dktJ4_putVal_5 := dk_seg dksJ4_putVal_4 23 rfl rfl
theorem dksJ4_putVal_6 : cJ4_putVal.data.toList.drop 136 = dktJ4_putVal_6 := dk_seg dksJ4_putVal_5 22 rfl rfl
theorem dksJ4_putVal_7 : cJ4_putVal.data.toList.drop 160 = dktJ4_putVal_7 := dk_seg dksJ4_putVal_6 24 rfl rfl
theorem dksJ4_putVal_8 : cJ4_putVal.data.toList.drop 184 = dktJ4_putVal_8 := dk_seg dksJ4_putVal_7 24 rfl rfl
theorem dksJ4_putVal_9 : cJ4_putVal.data.toList.drop 206 = dktJ4_putVal_9 := dk_seg dksJ4_putVal_8 22 rfl rfl
theorem dksJ4_putVal_10 : cJ4_putVal.data.toList.drop 229 = dktJ4_putVal_10 := dk_seg dksJ4_putVal_9 23 rfl rfl
theorem dksJ4_putVal_11 : cJ4_putVal.data.toList.drop 253 = dktJ4_putVal_11 := dk_seg dksJ4_putVal_10 24 rfl rfl
theorem dksJ4_putVal_12 : cJ4_putVal.data.toList.drop 277 = dktJ4_putVal_12 := dk_seg dksJ4_putVal_11 24 rfl rfl
theorem dJ4_putVal_0 : decode cJ4_putVal 0 = .ok (.aload_n 0, 1) := dk_42 (dk_at dksJ4_putVal_0 0 rfl rfl)
theorem dJ4_putVal_1 : decode cJ4_putVal 1 = .ok (.getfield 105, 3) := dk_180 0 105 (dk_at dksJ4_putVal_0 1 rfl rfl)
theorem dJ4_putVal_4 : decode cJ4_putVal 4 = .ok (.dup, 1) := dk_89 (dk_at dksJ4_putVal_0 4 rfl rfl)
theorem dJ4_putVal_5 : decode cJ4_putVal 5 = .ok (.astore 6, 2) := dk_58 6 (dk_at dksJ4_putVal_0 5 rfl rfl)
theorem dJ4_putVal_7 : decode cJ4_putVal 7 = .ok (.ifnull 12, 3) := dk_198 0 12 (dk_at dksJ4_putVal_0 7 rfl rfl)
theorem dJ4_putVal_10 : decode cJ4_putVal 10 = .ok (.aload 6, 2) := dk_25 6 (dk_at dksJ4_putVal_0 10 rfl rfl)
theorem dJ4_putVal_12 : decode cJ4_putVal 12 = .ok (.arraylength, 1) := dk_190 (dk_at dksJ4_putVal_0 12 rfl rfl)
theorem dJ4_putVal_13 : decode cJ4_putVal 13 = .ok (.dup, 1) := dk_89 (dk_at dksJ4_putVal_0 13 rfl rfl)
theorem dJ4_putVal_14 : decode cJ4_putVal 14 = .ok (.istore 8, 2) := dk_54 8 (dk_at dksJ4_putVal_0 14 rfl rfl)
theorem dJ4_putVal_16 : decode cJ4_putVal 16 = .ok (.ifCond .ne 13, 3) := dk_154 0 13 (dk_at dksJ4_putVal_0 16 rfl rfl)
theorem dJ4_putVal_19 : decode cJ4_putVal 19 = .ok (.aload_n 0, 1) := dk_42 (dk_at dksJ4_putVal_0 19 rfl rfl)
theorem dJ4_putVal_20 : decode cJ4_putVal 20 = .ok (.invokevirtual 117, 3) := dk_182 0 117 (dk_at dksJ4_putVal_0 20 rfl rfl)
theorem dJ4_putVal_23 : decode cJ4_putVal 23 = .ok (.dup, 1) := dk_89 (dk_at dksJ4_putVal_0 23 rfl rfl)
theorem dJ4_putVal_24 : decode cJ4_putVal 24 = .ok (.astore 6, 2) := dk_58 6 (dk_at dksJ4_putVal_1 0 rfl rfl)
theorem dJ4_putVal_26 : decode cJ4_putVal 26 = .ok (.arraylength, 1) := dk_190 (dk_at dksJ4_putVal_1 2 rfl rfl)
theorem dJ4_putVal_27 : decode cJ4_putVal 27 = .ok (.istore 8, 2) := dk_54 8 (dk_at dksJ4_putVal_1 3 rfl rfl)
theorem dJ4_putVal_29 : decode cJ4_putVal 29 = .ok (.aload 6, 2) := dk_25 6 (dk_at dksJ4_putVal_1 5 rfl rfl)
theorem dJ4_putVal_31 : decode cJ4_putVal 31 = .ok (.iload 8, 2) := dk_21 8 (dk_at dksJ4_putVal_1 7 rfl rfl)
theorem dJ4_putVal_33 : decode cJ4_putVal 33 = .ok (.iconst 1, 1) := dk_4 (dk_at dksJ4_putVal_1 9 rfl rfl)
theorem dJ4_putVal_34 : decode cJ4_putVal 34 = .ok (.isub, 1) := dk_100 (dk_at dksJ4_putVal_1 10 rfl rfl)
theorem dJ4_putVal_35 : decode cJ4_putVal 35 = .ok (.iload_n 1, 1) := dk_27 (dk_at dksJ4_putVal_1 11 rfl rfl)
theorem dJ4_putVal_36 : decode cJ4_putVal 36 = .ok (.iand, 1) := dk_126 (dk_at dksJ4_putVal_1 12 rfl rfl)
theorem dJ4_putVal_37 : decode cJ4_putVal 37 = .ok (.dup, 1) := dk_89 (dk_at dksJ4_putVal_1 13 rfl rfl)
theorem dJ4_putVal_38 : decode cJ4_putVal 38 = .ok (.istore 9, 2) := dk_54 9 (dk_at dksJ4_putVal_1 14 rfl rfl)
theorem dJ4_putVal_40 : decode cJ4_putVal 40 = .ok (.aaload, 1) := dk_50 (dk_at dksJ4_putVal_1 16 rfl rfl)
theorem dJ4_putVal_41 : decode cJ4_putVal 41 = .ok (.dup, 1) := dk_89 (dk_at dksJ4_putVal_1 17 rfl rfl)
theorem dJ4_putVal_42 : decode cJ4_putVal 42 = .ok (.astore 7, 2) := dk_58 7 (dk_at dksJ4_putVal_1 18 rfl rfl)
theorem dJ4_putVal_44 : decode cJ4_putVal 44 = .ok (.ifnonnull 19, 3) := dk_199 0 19 (dk_at dksJ4_putVal_1 20 rfl rfl)
theorem dJ4_putVal_47 : decode cJ4_putVal 47 = .ok (.aload 6, 2) := dk_25 6 (dk_at dksJ4_putVal_2 0 rfl rfl)
theorem dJ4_putVal_49 : decode cJ4_putVal 49 = .ok (.iload 9, 2) := dk_21 9 (dk_at dksJ4_putVal_2 2 rfl rfl)
theorem dJ4_putVal_51 : decode cJ4_putVal 51 = .ok (.aload_n 0, 1) := dk_42 (dk_at dksJ4_putVal_2 4 rfl rfl)
theorem dJ4_putVal_52 : decode cJ4_putVal 52 = .ok (.iload_n 1, 1) := dk_27 (dk_at dksJ4_putVal_2 5 rfl rfl)
theorem dJ4_putVal_53 : decode cJ4_putVal 53 = .ok (.aload_n 2, 1) := dk_44 (dk_at dksJ4_putVal_2 6 rfl rfl)
theorem dJ4_putVal_54 : decode cJ4_putVal 54 = .ok (.aload_n 3, 1) := dk_45 (dk_at dksJ4_putVal_2 7 rfl rfl)
theorem dJ4_putVal_55 : decode cJ4_putVal 55 = .ok (.aconst_null, 1) := dk_1 (dk_at dksJ4_putVal_2 8 rfl rfl)
theorem dJ4_putVal_56 : decode cJ4_putVal 56 = .ok (.invokevirtual 186, 3) := dk_182 0 186 (dk_at dksJ4_putVal_2 9 rfl rfl)
theorem dJ4_putVal_59 : decode cJ4_putVal 59 = .ok (.aastore, 1) := dk_83 (dk_at dksJ4_putVal_2 12 rfl rfl)
theorem dJ4_putVal_60 : decode cJ4_putVal 60 = .ok (.goto 199, 3) := dk_167 0 199 (dk_at dksJ4_putVal_2 13 rfl rfl)
theorem dJ4_putVal_63 : decode cJ4_putVal 63 = .ok (.aload 7, 2) := dk_25 7 (dk_at dksJ4_putVal_2 16 rfl rfl)
theorem dJ4_putVal_65 : decode cJ4_putVal 65 = .ok (.getfield 168, 3) := dk_180 0 168 (dk_at dksJ4_putVal_2 18 rfl rfl)
theorem dJ4_putVal_68 : decode cJ4_putVal 68 = .ok (.iload_n 1, 1) := dk_27 (dk_at dksJ4_putVal_2 21 rfl rfl)
theorem dJ4_putVal_69 : decode cJ4_putVal 69 = .ok (.if_icmp .ne 35, 3) := dk_160 0 35 (dk_at dksJ4_putVal_3 0 rfl rfl)
theorem dJ4_putVal_72 : decode cJ4_putVal 72 = .ok (.aload 7, 2) := dk_25 7 (dk_at dksJ4_putVal_3 3 rfl rfl)
theorem dJ4_putVal_74 : decode cJ4_putVal 74 = .ok (.getfield 170, 3) := dk_180 0 170 (dk_at dksJ4_putVal_3 5 rfl rfl)
theorem dJ4_putVal_77 : decode cJ4_putVal 77 = .ok (.dup, 1) := dk_89 (dk_at dksJ4_putVal_3 8 rfl rfl)
theorem dJ4_putVal_78 : decode cJ4_putVal 78 = .ok (.astore 11, 2) := dk_58 11 (dk_at dksJ4_putVal_3 9 rfl rfl)
theorem dJ4_putVal_80 : decode cJ4_putVal 80 = .ok (.aload_n 2, 1) := dk_44 (dk_at dksJ4_putVal_3 11 rfl rfl)
theorem dJ4_putVal_81 : decode cJ4_putVal 81 = .ok (.if_acmp .eq 16, 3) := dk_165 0 16 (dk_at dksJ4_putVal_3 12 rfl rfl)
theorem dJ4_putVal_84 : decode cJ4_putVal 84 = .ok (.aload_n 2, 1) := dk_44 (dk_at dksJ4_putVal_3 15 rfl rfl)
theorem dJ4_putVal_85 : decode cJ4_putVal 85 = .ok (.ifnull 19, 3) := dk_198 0 19 (dk_at dksJ4_putVal_3 16 rfl rfl)
theorem dJ4_putVal_88 : decode cJ4_putVal 88 = .ok (.aload_n 2, 1) := dk_44 (dk_at dksJ4_putVal_3 19 rfl rfl)
theorem dJ4_putVal_89 : decode cJ4_putVal 89 = .ok (.aload 11, 2) := dk_25 11 (dk_at dksJ4_putVal_3 20 rfl rfl)
theorem dJ4_putVal_91 : decode cJ4_putVal 91 = .ok (.invokevirtual 173, 3) := dk_182 0 173 (dk_at dksJ4_putVal_4 0 rfl rfl)
theorem dJ4_putVal_94 : decode cJ4_putVal 94 = .ok (.ifCond .eq 10, 3) := dk_153 0 10 (dk_at dksJ4_putVal_4 3 rfl rfl)
theorem dJ4_putVal_97 : decode cJ4_putVal 97 = .ok (.aload 7, 2) := dk_25 7 (dk_at dksJ4_putVal_4 6 rfl rfl)
theorem dJ4_putVal_99 : decode cJ4_putVal 99 = .ok (.astore 10, 2) := dk_58 10 (dk_at dksJ4_putVal_4 8 rfl rfl)
theorem dJ4_putVal_101 : decode cJ4_putVal 101 = .ok (.goto 121, 3) := dk_167 0 121 (dk_at dksJ4_putVal_4 10 rfl rfl)
theorem dJ4_putVal_104 : decode cJ4_putVal 104 = .ok (.aload 7, 2) := dk_25 7 (dk_at dksJ4_putVal_4 13 rfl rfl)
theorem dJ4_putVal_106 : decode cJ4_putVal 106 = .ok (.instanceof 180, 3) := dk_193 0 180 (dk_at dksJ4_putVal_4 15 rfl rfl)
theorem dJ4_putVal_109 : decode cJ4_putVal 109 = .ok (.ifCond .eq 22, 3) := dk_153 0 22 (dk_at dksJ4_putVal_4 18 rfl rfl)
theorem dJ4_putVal_112 : decode cJ4_putVal 112 = .ok (.aload 7, 2) := dk_25 7 (dk_at dksJ4_putVal_4 21 rfl rfl)
theorem dJ4_putVal_114 : decode cJ4_putVal 114 = .ok (.checkcast 180, 3) := dk_192 0 180 (dk_at dksJ4_putVal_5 0 rfl rfl)
theorem dJ4_putVal_117 : decode cJ4_putVal 117 = .ok (.aload_n 0, 1) := dk_42 (dk_at dksJ4_putVal_5 3 rfl rfl)
theorem dJ4_putVal_118 : decode cJ4_putVal 118 = .ok (.aload 6, 2) := dk_25 6 (dk_at dksJ4_putVal_5 4 rfl rfl)
theorem dJ4_putVal_120 : decode cJ4_putVal 120 = .ok (.iload_n 1, 1) := dk_27 (dk_at dksJ4_putVal_5 6 rfl rfl)
theorem dJ4_putVal_121 : decode cJ4_putVal 121 = .ok (.aload_n 2, 1) := dk_44 (dk_at dksJ4_putVal_5 7 rfl rfl)
theorem dJ4_putVal_122 : decode cJ4_putVal 122 = .ok (.aload_n 3, 1) := dk_45 (dk_at dksJ4_putVal_5 8 rfl rfl)
theorem dJ4_putVal_123 : decode cJ4_putVal 123 = .ok (.invokevirtual 190, 3) := dk_182 0 190 (dk_at dksJ4_putVal_5 9 rfl rfl)
theorem dJ4_putVal_126 : decode cJ4_putVal 126 = .ok (.astore 10, 2) := dk_58 10 (dk_at dksJ4_putVal_5 12 rfl rfl)
theorem dJ4_putVal_128 : decode cJ4_putVal 128 = .ok (.goto 94, 3) := dk_167 0 94 (dk_at dksJ4_putVal_5 14 rfl rfl)
theorem dJ4_putVal_131 : decode cJ4_putVal 131 = .ok (.iconst 0, 1) := dk_3 (dk_at dksJ4_putVal_5 17 rfl rfl)
theorem dJ4_putVal_132 : decode cJ4_putVal 132 = .ok (.istore 12, 2) := dk_54 12 (dk_at dksJ4_putVal_5 18 rfl rfl)
theorem dJ4_putVal_134 : decode cJ4_putVal 134 = .ok (.aload 7, 2) := dk_25 7 (dk_at dksJ4_putVal_5 20 rfl rfl)
theorem dJ4_putVal_136 : decode cJ4_putVal 136 = .ok (.getfield 177, 3) := dk_180 0 177 (dk_at dksJ4_putVal_6 0 rfl rfl)
theorem dJ4_putVal_139 : decode cJ4_putVal 139 = .ok (.dup, 1) := dk_89 (dk_at dksJ4_putVal_6 3 rfl rfl)
theorem dJ4_putVal_140 : decode cJ4_putVal 140 = .ok (.astore 10, 2) := dk_58 10 (dk_at dksJ4_putVal_6 4 rfl rfl)
theorem dJ4_putVal_142 : decode cJ4_putVal 142 = .ok (.ifnonnull 33, 3) := dk_199 0 33 (dk_at dksJ4_putVal_6 6 rfl rfl)
theorem dJ4_putVal_145 : decode cJ4_putVal 145 = .ok (.aload 7, 2) := dk_25 7 (dk_at dksJ4_putVal_6 9 rfl rfl)
theorem dJ4_putVal_147 : decode cJ4_putVal 147 = .ok (.aload_n 0, 1) := dk_42 (dk_at dksJ4_putVal_6 11 rfl rfl)
theorem dJ4_putVal_148 : decode cJ4_putVal 148 = .ok (.iload_n 1, 1) := dk_27 (dk_at dksJ4_putVal_6 12 rfl rfl)
theorem dJ4_putVal_149 : decode cJ4_putVal 149 = .ok (.aload_n 2, 1) := dk_44 (dk_at dksJ4_putVal_6 13 rfl rfl)
theorem dJ4_putVal_150 : decode cJ4_putVal 150 = .ok (.aload_n 3, 1) := dk_45 (dk_at dksJ4_putVal_6 14 rfl rfl)
theorem dJ4_putVal_151 : decode cJ4_putVal 151 = .ok (.aconst_null, 1) := dk_1 (dk_at dksJ4_putVal_6 15 rfl rfl)
theorem dJ4_putVal_152 : decode cJ4_putVal 152 = .ok (.invokevirtual 186, 3) := dk_182 0 186 (dk_at dksJ4_putVal_6 16 rfl rfl)
theorem dJ4_putVal_155 : decode cJ4_putVal 155 = .ok (.putfield 177, 3) := dk_181 0 177 (dk_at dksJ4_putVal_6 19 rfl rfl)
theorem dJ4_putVal_158 : decode cJ4_putVal 158 = .ok (.iload 12, 2) := dk_21 12 (dk_at dksJ4_putVal_6 22 rfl rfl)
theorem dJ4_putVal_160 : decode cJ4_putVal 160 = .ok (.bipush 7, 2) := dk_16 7 (dk_at dksJ4_putVal_7 0 rfl rfl)
theorem dJ4_putVal_162 : decode cJ4_putVal 162 = .ok (.if_icmp .lt 60, 3) := dk_161 0 60 (dk_at dksJ4_putVal_7 2 rfl rfl)
theorem dJ4_putVal_165 : decode cJ4_putVal 165 = .ok (.aload_n 0, 1) := dk_42 (dk_at dksJ4_putVal_7 5 rfl rfl)
theorem dJ4_putVal_166 : decode cJ4_putVal 166 = .ok (.aload 6, 2) := dk_25 6 (dk_at dksJ4_putVal_7 6 rfl rfl)
theorem dJ4_putVal_168 : decode cJ4_putVal 168 = .ok (.iload_n 1, 1) := dk_27 (dk_at dksJ4_putVal_7 8 rfl rfl)
theorem dJ4_putVal_169 : decode cJ4_putVal 169 = .ok (.invokevirtual 194, 3) := dk_182 0 194 (dk_at dksJ4_putVal_7 9 rfl rfl)
theorem dJ4_putVal_172 : decode cJ4_putVal 172 = .ok (.goto 50, 3) := dk_167 0 50 (dk_at dksJ4_putVal_7 12 rfl rfl)
theorem dJ4_putVal_175 : decode cJ4_putVal 175 = .ok (.aload 10, 2) := dk_25 10 (dk_at dksJ4_putVal_7 15 rfl rfl)
theorem dJ4_putVal_177 : decode cJ4_putVal 177 = .ok (.getfield 168, 3) := dk_180 0 168 (dk_at dksJ4_putVal_7 17 rfl rfl)
theorem dJ4_putVal_180 : decode cJ4_putVal 180 = .ok (.iload_n 1, 1) := dk_27 (dk_at dksJ4_putVal_7 20 rfl rfl)
theorem dJ4_putVal_181 : decode cJ4_putVal 181 = .ok (.if_icmp .ne 31, 3) := dk_160 0 31 (dk_at dksJ4_putVal_7 21 rfl rfl)
theorem dJ4_putVal_184 : decode cJ4_putVal 184 = .ok (.aload 10, 2) := dk_25 10 (dk_at dksJ4_putVal_8 0 rfl rfl)
theorem dJ4_putVal_186 : decode cJ4_putVal 186 = .ok (.getfield 170, 3) := dk_180 0 170 (dk_at dksJ4_putVal_8 2 rfl rfl)
theorem dJ4_putVal_189 : decode cJ4_putVal 189 = .ok (.dup, 1) := dk_89 (dk_at dksJ4_putVal_8 5 rfl rfl)
theorem dJ4_putVal_190 : decode cJ4_putVal 190 = .ok (.astore 11, 2) := dk_58 11 (dk_at dksJ4_putVal_8 6 rfl rfl)
theorem dJ4_putVal_192 : decode cJ4_putVal 192 = .ok (.aload_n 2, 1) := dk_44 (dk_at dksJ4_putVal_8 8 rfl rfl)
theorem dJ4_putVal_193 : decode cJ4_putVal 193 = .ok (.if_acmp .eq 29, 3) := dk_165 0 29 (dk_at dksJ4_putVal_8 9 rfl rfl)
theorem dJ4_putVal_196 : decode cJ4_putVal 196 = .ok (.aload_n 2, 1) := dk_44 (dk_at dksJ4_putVal_8 12 rfl rfl)
theorem dJ4_putVal_197 : decode cJ4_putVal 197 = .ok (.ifnull 15, 3) := dk_198 0 15 (dk_at dksJ4_putVal_8 13 rfl rfl)
theorem dJ4_putVal_200 : decode cJ4_putVal 200 = .ok (.aload_n 2, 1) := dk_44 (dk_at dksJ4_putVal_8 16 rfl rfl)
theorem dJ4_putVal_201 : decode cJ4_putVal 201 = .ok (.aload 11, 2) := dk_25 11 (dk_at dksJ4_putVal_8 17 rfl rfl)
theorem dJ4_putVal_203 : decode cJ4_putVal 203 = .ok (.invokevirtual 173, 3) := dk_182 0 173 (dk_at dksJ4_putVal_8 19 rfl rfl)
theorem dJ4_putVal_206 : decode cJ4_putVal 206 = .ok (.ifCond .eq 6, 3) := dk_153 0 6 (dk_at dksJ4_putVal_9 0 rfl rfl)
theorem dJ4_putVal_209 : decode cJ4_putVal 209 = .ok (.goto 13, 3) := dk_167 0 13 (dk_at dksJ4_putVal_9 3 rfl rfl)
theorem dJ4_putVal_212 : decode cJ4_putVal 212 = .ok (.aload 10, 2) := dk_25 10 (dk_at dksJ4_putVal_9 6 rfl rfl)
theorem dJ4_putVal_214 : decode cJ4_putVal 214 = .ok (.astore 7, 2) := dk_58 7 (dk_at dksJ4_putVal_9 8 rfl rfl)
theorem dJ4_putVal_216 : decode cJ4_putVal 216 = .ok (.iinc 12 1, 3) := dk_132 12 1 (dk_at dksJ4_putVal_9 10 rfl rfl)
theorem dJ4_putVal_219 : decode cJ4_putVal 219 = .ok (.goto (-85), 3) := dk_167 255 171 (dk_at dksJ4_putVal_9 13 rfl rfl)
theorem dJ4_putVal_222 : decode cJ4_putVal 222 = .ok (.aload 10, 2) := dk_25 10 (dk_at dksJ4_putVal_9 16 rfl rfl)
theorem dJ4_putVal_224 : decode cJ4_putVal 224 = .ok (.ifnull 35, 3) := dk_198 0 35 (dk_at dksJ4_putVal_9 18 rfl rfl)
theorem dJ4_putVal_227 : decode cJ4_putVal 227 = .ok (.aload 10, 2) := dk_25 10 (dk_at dksJ4_putVal_9 21 rfl rfl)
theorem dJ4_putVal_229 : decode cJ4_putVal 229 = .ok (.getfield 162, 3) := dk_180 0 162 (dk_at dksJ4_putVal_10 0 rfl rfl)
theorem dJ4_putVal_232 : decode cJ4_putVal 232 = .ok (.astore 12, 2) := dk_58 12 (dk_at dksJ4_putVal_10 3 rfl rfl)
theorem dJ4_putVal_234 : decode cJ4_putVal 234 = .ok (.iload 4, 2) := dk_21 4 (dk_at dksJ4_putVal_10 5 rfl rfl)
theorem dJ4_putVal_236 : decode cJ4_putVal 236 = .ok (.ifCond .eq 8, 3) := dk_153 0 8 (dk_at dksJ4_putVal_10 7 rfl rfl)
theorem dJ4_putVal_239 : decode cJ4_putVal 239 = .ok (.aload 12, 2) := dk_25 12 (dk_at dksJ4_putVal_10 10 rfl rfl)
theorem dJ4_putVal_241 : decode cJ4_putVal 241 = .ok (.ifnonnull 9, 3) := dk_199 0 9 (dk_at dksJ4_putVal_10 12 rfl rfl)
theorem dJ4_putVal_244 : decode cJ4_putVal 244 = .ok (.aload 10, 2) := dk_25 10 (dk_at dksJ4_putVal_10 15 rfl rfl)
theorem dJ4_putVal_246 : decode cJ4_putVal 246 = .ok (.aload_n 3, 1) := dk_45 (dk_at dksJ4_putVal_10 17 rfl rfl)
theorem dJ4_putVal_247 : decode cJ4_putVal 247 = .ok (.putfield 162, 3) := dk_181 0 162 (dk_at dksJ4_putVal_10 18 rfl rfl)
theorem dJ4_putVal_250 : decode cJ4_putVal 250 = .ok (.aload_n 0, 1) := dk_42 (dk_at dksJ4_putVal_10 21 rfl rfl)
theorem dJ4_putVal_251 : decode cJ4_putVal 251 = .ok (.aload 10, 2) := dk_25 10 (dk_at dksJ4_putVal_10 22 rfl rfl)
theorem dJ4_putVal_253 : decode cJ4_putVal 253 = .ok (.invokevirtual 198, 3) := dk_182 0 198 (dk_at dksJ4_putVal_11 0 rfl rfl)
theorem dJ4_putVal_256 : decode cJ4_putVal 256 = .ok (.aload 12, 2) := dk_25 12 (dk_at dksJ4_putVal_11 3 rfl rfl)
theorem dJ4_putVal_258 : decode cJ4_putVal 258 = .ok (.areturn, 1) := dk_176 (dk_at dksJ4_putVal_11 5 rfl rfl)
theorem dJ4_putVal_259 : decode cJ4_putVal 259 = .ok (.aload_n 0, 1) := dk_42 (dk_at dksJ4_putVal_11 6 rfl rfl)
theorem dJ4_putVal_260 : decode cJ4_putVal 260 = .ok (.dup, 1) := dk_89 (dk_at dksJ4_putVal_11 7 rfl rfl)
theorem dJ4_putVal_261 : decode cJ4_putVal 261 = .ok (.getfield 202, 3) := dk_180 0 202 (dk_at dksJ4_putVal_11 8 rfl rfl)
theorem dJ4_putVal_264 : decode cJ4_putVal 264 = .ok (.iconst 1, 1) := dk_4 (dk_at dksJ4_putVal_11 11 rfl rfl)
theorem dJ4_putVal_265 : decode cJ4_putVal 265 = .ok (.iadd, 1) := dk_96 (dk_at dksJ4_putVal_11 12 rfl rfl)
theorem dJ4_putVal_266 : decode cJ4_putVal 266 = .ok (.putfield 202, 3) := dk_181 0 202 (dk_at dksJ4_putVal_11 13 rfl rfl)
theorem dJ4_putVal_269 : decode cJ4_putVal 269 = .ok (.aload_n 0, 1) := dk_42 (dk_at dksJ4_putVal_11 16 rfl rfl)
theorem dJ4_putVal_270 : decode cJ4_putVal 270 = .ok (.dup, 1) := dk_89 (dk_at dksJ4_putVal_11 17 rfl rfl)
theorem dJ4_putVal_271 : decode cJ4_putVal 271 = .ok (.getfield 156, 3) := dk_180 0 156 (dk_at dksJ4_putVal_11 18 rfl rfl)
theorem dJ4_putVal_274 : decode cJ4_putVal 274 = .ok (.iconst 1, 1) := dk_4 (dk_at dksJ4_putVal_11 21 rfl rfl)
theorem dJ4_putVal_275 : decode cJ4_putVal 275 = .ok (.iadd, 1) := dk_96 (dk_at dksJ4_putVal_11 22 rfl rfl)
theorem dJ4_putVal_276 : decode cJ4_putVal 276 = .ok (.dup_x1, 1) := dk_90 (dk_at dksJ4_putVal_11 23 rfl rfl)
theorem dJ4_putVal_277 : decode cJ4_putVal 277 = .ok (.putfield 156, 3) := dk_181 0 156 (dk_at dksJ4_putVal_12 0 rfl rfl)
theorem dJ4_putVal_280 : decode cJ4_putVal 280 = .ok (.aload_n 0, 1) := dk_42 (dk_at dksJ4_putVal_12 3 rfl rfl)
theorem dJ4_putVal_281 : decode cJ4_putVal 281 = .ok (.getfield 88, 3) := dk_180 0 88 (dk_at dksJ4_putVal_12 4 rfl rfl)
theorem dJ4_putVal_284 : decode cJ4_putVal 284 = .ok (.if_icmp .le 8, 3) := dk_164 0 8 (dk_at dksJ4_putVal_12 7 rfl rfl)
theorem dJ4_putVal_287 : decode cJ4_putVal 287 = .ok (.aload_n 0, 1) := dk_42 (dk_at dksJ4_putVal_12 10 rfl rfl)
theorem dJ4_putVal_288 : decode cJ4_putVal 288 = .ok (.invokevirtual 117, 3) := dk_182 0 117 (dk_at dksJ4_putVal_12 11 rfl rfl)
theorem dJ4_putVal_291 : decode cJ4_putVal 291 = .ok (.pop, 1) := dk_87 (dk_at dksJ4_putVal_12 14 rfl rfl)
theorem dJ4_putVal_292 : decode cJ4_putVal 292 = .ok (.aload_n 0, 1) := dk_42 (dk_at dksJ4_putVal_12 15 rfl rfl)
theorem dJ4_putVal_293 : decode cJ4_putVal 293 = .ok (.iload 5, 2) := dk_21 5 (dk_at dksJ4_putVal_12 16 rfl rfl)
theorem dJ4_putVal_295 : decode cJ4_putVal 295 = .ok (.invokevirtual 205, 3) := dk_182 0 205 (dk_at dksJ4_putVal_12 18 rfl rfl)
theorem dJ4_putVal_298 : decode cJ4_putVal 298 = .ok (.aconst_null, 1) := dk_1 (dk_at dksJ4_putVal_12 21 rfl rfl)
theorem dJ4_putVal_299 : decode cJ4_putVal 299 = .ok (.areturn, 1) := dk_176 (dk_at dksJ4_putVal_12 22 rfl rfl)
abbrev cJ4_resize : ByteArray := prog_65_method_17_code
def yJ4_resize : MethodName := ⟨RJ4, "resize", "()[Ljava/util/HashMap$Node;"⟩
def dkwJ4_resize_15 : List UInt8 := [25, 6, 176]
abbrev dktJ4_resize_15 : List UInt8 := dkwJ4_resize_15 ++ []
def dkwJ4_resize_14 : List UInt8 := [198, 0, 18, 25, 12, 1, 181, 0, 177, 25, 6, 21, 7, 28, 96, 25, 11, 83, 132, 7, 1, 167, 255, 57]
abbrev dktJ4_resize_14 : List UInt8 := dkwJ4_resize_14 ++ dktJ4_resize_15
def dkwJ4_resize_13 : List UInt8 := [199, 255, 185, 25, 10, 198, 0, 16, 25, 10, 1, 181, 0, 177, 25, 6, 21, 7, 25, 9, 83, 25, 12]
abbrev dktJ4_resize_13 : List UInt8 := dkwJ4_resize_13 ++ dktJ4_resize_14
def dkwJ4_resize_12 : List UInt8 := [25, 8, 58, 11, 167, 0, 10, 25, 12, 25, 8, 181, 0, 177, 25, 8, 58, 12, 25, 13, 89, 58, 8]
abbrev dktJ4_resize_12 : List UInt8 := dkwJ4_resize_12 ++ dktJ4_resize_13
def dkwJ4_resize_11 : List UInt8 := [58, 9, 167, 0, 10, 25, 10, 25, 8, 181, 0, 177, 25, 8, 58, 10, 167, 0, 26, 25, 12, 199, 0, 10]
abbrev dktJ4_resize_11 : List UInt8 := dkwJ4_resize_11 ++ dktJ4_resize_12
def dkwJ4_resize_10 : List UInt8 := [25, 8, 180, 0, 177, 58, 13, 25, 8, 180, 0, 168, 28, 126, 154, 0, 29, 25, 10, 199, 0, 10, 25, 8]
abbrev dktJ4_resize_10 : List UInt8 := dkwJ4_resize_10 ++ dktJ4_resize_11
def dkwJ4_resize_9 : List UInt8 := [42, 25, 6, 21, 7, 28, 182, 0, 211, 167, 0, 127, 1, 58, 9, 1, 58, 10, 1, 58, 11, 1, 58, 12]
abbrev dktJ4_resize_9 : List UInt8 := dkwJ4_resize_9 ++ dktJ4_resize_10
def dkwJ4_resize_8 : List UInt8 := [21, 4, 4, 100, 126, 25, 8, 83, 167, 0, 152, 25, 8, 193, 0, 180, 153, 0, 20, 25, 8, 192, 0, 180]
abbrev dktJ4_resize_8 : List UInt8 := dkwJ4_resize_8 ++ dktJ4_resize_9
def dkwJ4_resize_7 : List UInt8 := [198, 0, 183, 43, 21, 7, 1, 83, 25, 8, 180, 0, 177, 199, 0, 21, 25, 6, 25, 8, 180, 0, 168]
abbrev dktJ4_resize_7 : List UInt8 := dkwJ4_resize_7 ++ dktJ4_resize_8
def dkwJ4_resize_6 : List UInt8 := [181, 0, 105, 43, 198, 0, 208, 3, 54, 7, 21, 7, 28, 162, 0, 199, 43, 21, 7, 50, 89, 58, 8]
abbrev dktJ4_resize_6 : List UInt8 := dkwJ4_resize_6 ++ dktJ4_resize_7
def dkwJ4_resize_5 : List UInt8 := [167, 0, 5, 18, 209, 54, 5, 42, 21, 5, 181, 0, 88, 21, 4, 189, 0, 163, 58, 6, 42, 25, 6]
abbrev dktJ4_resize_5 : List UInt8 := dkwJ4_resize_5 ++ dktJ4_resize_6
def dkwJ4_resize_4 : List UInt8 := [180, 0, 81, 106, 56, 6, 21, 4, 18, 42, 162, 0, 17, 23, 6, 18, 210, 150, 156, 0, 9, 23, 6, 139]
abbrev dktJ4_resize_4 : List UInt8 := dkwJ4_resize_4 ++ dktJ4_resize_5
def dkwJ4_resize_3 : List UInt8 := [54, 4, 167, 0, 11, 16, 16, 54, 4, 16, 12, 54, 5, 21, 5, 154, 0, 38, 21, 4, 134, 42]
abbrev dktJ4_resize_3 : List UInt8 := dkwJ4_resize_3 ++ dktJ4_resize_4
def dkwJ4_resize_2 : List UInt8 := [18, 42, 162, 0, 35, 28, 16, 16, 161, 0, 29, 29, 4, 120, 54, 5, 167, 0, 21, 29, 158, 0, 9, 29]
abbrev dktJ4_resize_2 : List UInt8 := dkwJ4_resize_2 ++ dktJ4_resize_3
def dkwJ4_resize_1 : List UInt8 := [28, 158, 0, 42, 28, 18, 42, 161, 0, 11, 42, 18, 209, 181, 0, 88, 43, 176, 28, 4, 120, 89, 54, 4]
abbrev dktJ4_resize_1 : List UInt8 := dkwJ4_resize_1 ++ dktJ4_resize_2
def dkwJ4_resize_0 : List UInt8 := [42, 180, 0, 105, 76, 43, 199, 0, 7, 3, 167, 0, 5, 43, 190, 61, 42, 180, 0, 88, 62, 3, 54, 5]
abbrev dktJ4_resize_0 : List UInt8 := dkwJ4_resize_0 ++ dktJ4_resize_1
theorem dksJ4_resize_0 : cJ4_resize.data.toList.drop 0 = dktJ4_resize_0 := by decide +kernel
theorem dksJ4_resize_1 : cJ4_resize.data.toList.drop 24 = dktJ4_resize_1 := dk_seg dksJ4_resize_0 24 rfl rfl
theorem dksJ4_resize_2 : cJ4_resize.data.toList.drop 48 = dktJ4_resize_2 := dk_seg dksJ4_resize_1 24 rfl rfl
theorem dksJ4_resize_3 : cJ4_resize.data.toList.drop 72 = dktJ4_resize_3 := dk_seg dksJ4_resize_2 24 rfl rfl
theorem dksJ4_resize_4 : cJ4_resize.data.toList.drop 94 = dktJ4_resize_4 := dk_seg dksJ4_resize_3 22 rfl rfl
theorem dksJ4_resize_5 : cJ4_resize.data.toList.drop 118 = dktJ4_resize_5 := dk_seg dksJ4_resize_4 24 rfl rfl
theorem dksJ4_resize_6 : cJ4_resize.data.toList.drop 141 = dktJ4_resize_6 := dk_seg dksJ4_resize_5 23 rfl rfl
theorem dksJ4_resize_7 : cJ4_resize.data.toList.drop 164 = dktJ4_resize_7 := dk_seg dksJ4_resize_6 23 rfl rfl
theorem dksJ4_resize_8 : cJ4_resize.data.toList.drop 187 = dktJ4_resize_8 := dk_seg dksJ4_resize_7 23 rfl rfl
theorem dksJ4_resize_9 : cJ4_resize.data.toList.drop 211 = dktJ4_resize_9 := dk_seg dksJ4_resize_8 24 rfl rfl
theorem dksJ4_resize_10 : cJ4_resize.data.toList.drop 235 = dktJ4_resize_10 := dk_seg dksJ4_resize_9 24 rfl rfl
theorem dksJ4_resize_11 : cJ4_resize.data.toList.drop 259 = dktJ4_resize_11 := dk_seg dksJ4_resize_10 24 rfl rfl
theorem dksJ4_resize_12 : cJ4_resize.data.toList.drop 283 = dktJ4_resize_12 := dk_seg dksJ4_resize_11 24 rfl rfl
theorem dksJ4_resize_13 : cJ4_resize.data.toList.drop 306 = dktJ4_resize_13 := dk_seg dksJ4_resize_12 23 rfl rfl
theorem dksJ4_resize_14 : cJ4_resize.data.toList.drop 329 = dktJ4_resize_14 := dk_seg dksJ4_resize_13 23 rfl rfl
theorem dksJ4_resize_15 : cJ4_resize.data.toList.drop 353 = dktJ4_resize_15 := dk_seg dksJ4_resize_14 24 rfl rfl
theorem dJ4_resize_0 : decode cJ4_resize 0 = .ok (.aload_n 0, 1) := dk_42 (dk_at dksJ4_resize_0 0 rfl rfl)
theorem dJ4_resize_1 : decode cJ4_resize 1 = .ok (.getfield 105, 3) := dk_180 0 105 (dk_at dksJ4_resize_0 1 rfl rfl)
theorem dJ4_resize_4 : decode cJ4_resize 4 = .ok (.astore_n 1, 1) := dk_76 (dk_at dksJ4_resize_0 4 rfl rfl)
theorem dJ4_resize_5 : decode cJ4_resize 5 = .ok (.aload_n 1, 1) := dk_43 (dk_at dksJ4_resize_0 5 rfl rfl)
theorem dJ4_resize_6 : decode cJ4_resize 6 = .ok (.ifnonnull 7, 3) := dk_199 0 7 (dk_at dksJ4_resize_0 6 rfl rfl)
theorem dJ4_resize_9 : decode cJ4_resize 9 = .ok (.iconst 0, 1) := dk_3 (dk_at dksJ4_resize_0 9 rfl rfl)
theorem dJ4_resize_10 : decode cJ4_resize 10 = .ok (.goto 5, 3) := dk_167 0 5 (dk_at dksJ4_resize_0 10 rfl rfl)
theorem dJ4_resize_13 : decode cJ4_resize 13 = .ok (.aload_n 1, 1) := dk_43 (dk_at dksJ4_resize_0 13 rfl rfl)
theorem dJ4_resize_14 : decode cJ4_resize 14 = .ok (.arraylength, 1) := dk_190 (dk_at dksJ4_resize_0 14 rfl rfl)
theorem dJ4_resize_15 : decode cJ4_resize 15 = .ok (.istore_n 2, 1) := dk_61 (dk_at dksJ4_resize_0 15 rfl rfl)
theorem dJ4_resize_16 : decode cJ4_resize 16 = .ok (.aload_n 0, 1) := dk_42 (dk_at dksJ4_resize_0 16 rfl rfl)
theorem dJ4_resize_17 : decode cJ4_resize 17 = .ok (.getfield 88, 3) := dk_180 0 88 (dk_at dksJ4_resize_0 17 rfl rfl)
theorem dJ4_resize_20 : decode cJ4_resize 20 = .ok (.istore_n 3, 1) := dk_62 (dk_at dksJ4_resize_0 20 rfl rfl)
theorem dJ4_resize_21 : decode cJ4_resize 21 = .ok (.iconst 0, 1) := dk_3 (dk_at dksJ4_resize_0 21 rfl rfl)
theorem dJ4_resize_22 : decode cJ4_resize 22 = .ok (.istore 5, 2) := dk_54 5 (dk_at dksJ4_resize_0 22 rfl rfl)
theorem dJ4_resize_24 : decode cJ4_resize 24 = .ok (.iload_n 2, 1) := dk_28 (dk_at dksJ4_resize_1 0 rfl rfl)
theorem dJ4_resize_25 : decode cJ4_resize 25 = .ok (.ifCond .le 42, 3) := dk_158 0 42 (dk_at dksJ4_resize_1 1 rfl rfl)
theorem dJ4_resize_28 : decode cJ4_resize 28 = .ok (.iload_n 2, 1) := dk_28 (dk_at dksJ4_resize_1 4 rfl rfl)
theorem dJ4_resize_29 : decode cJ4_resize 29 = .ok (.ldc 42, 2) := dk_18 42 (dk_at dksJ4_resize_1 5 rfl rfl)
theorem dJ4_resize_31 : decode cJ4_resize 31 = .ok (.if_icmp .lt 11, 3) := dk_161 0 11 (dk_at dksJ4_resize_1 7 rfl rfl)
theorem dJ4_resize_34 : decode cJ4_resize 34 = .ok (.aload_n 0, 1) := dk_42 (dk_at dksJ4_resize_1 10 rfl rfl)
theorem dJ4_resize_35 : decode cJ4_resize 35 = .ok (.ldc 209, 2) := dk_18 209 (dk_at dksJ4_resize_1 11 rfl rfl)
theorem dJ4_resize_37 : decode cJ4_resize 37 = .ok (.putfield 88, 3) := dk_181 0 88 (dk_at dksJ4_resize_1 13 rfl rfl)
theorem dJ4_resize_40 : decode cJ4_resize 40 = .ok (.aload_n 1, 1) := dk_43 (dk_at dksJ4_resize_1 16 rfl rfl)
theorem dJ4_resize_41 : decode cJ4_resize 41 = .ok (.areturn, 1) := dk_176 (dk_at dksJ4_resize_1 17 rfl rfl)
theorem dJ4_resize_42 : decode cJ4_resize 42 = .ok (.iload_n 2, 1) := dk_28 (dk_at dksJ4_resize_1 18 rfl rfl)
theorem dJ4_resize_43 : decode cJ4_resize 43 = .ok (.iconst 1, 1) := dk_4 (dk_at dksJ4_resize_1 19 rfl rfl)
theorem dJ4_resize_44 : decode cJ4_resize 44 = .ok (.ishl, 1) := dk_120 (dk_at dksJ4_resize_1 20 rfl rfl)
theorem dJ4_resize_45 : decode cJ4_resize 45 = .ok (.dup, 1) := dk_89 (dk_at dksJ4_resize_1 21 rfl rfl)
theorem dJ4_resize_46 : decode cJ4_resize 46 = .ok (.istore 4, 2) := dk_54 4 (dk_at dksJ4_resize_1 22 rfl rfl)
theorem dJ4_resize_48 : decode cJ4_resize 48 = .ok (.ldc 42, 2) := dk_18 42 (dk_at dksJ4_resize_2 0 rfl rfl)
theorem dJ4_resize_50 : decode cJ4_resize 50 = .ok (.if_icmp .ge 35, 3) := dk_162 0 35 (dk_at dksJ4_resize_2 2 rfl rfl)
theorem dJ4_resize_53 : decode cJ4_resize 53 = .ok (.iload_n 2, 1) := dk_28 (dk_at dksJ4_resize_2 5 rfl rfl)
theorem dJ4_resize_54 : decode cJ4_resize 54 = .ok (.bipush 16, 2) := dk_16 16 (dk_at dksJ4_resize_2 6 rfl rfl)
theorem dJ4_resize_56 : decode cJ4_resize 56 = .ok (.if_icmp .lt 29, 3) := dk_161 0 29 (dk_at dksJ4_resize_2 8 rfl rfl)
theorem dJ4_resize_59 : decode cJ4_resize 59 = .ok (.iload_n 3, 1) := dk_29 (dk_at dksJ4_resize_2 11 rfl rfl)
theorem dJ4_resize_60 : decode cJ4_resize 60 = .ok (.iconst 1, 1) := dk_4 (dk_at dksJ4_resize_2 12 rfl rfl)
theorem dJ4_resize_61 : decode cJ4_resize 61 = .ok (.ishl, 1) := dk_120 (dk_at dksJ4_resize_2 13 rfl rfl)
theorem dJ4_resize_62 : decode cJ4_resize 62 = .ok (.istore 5, 2) := dk_54 5 (dk_at dksJ4_resize_2 14 rfl rfl)
theorem dJ4_resize_64 : decode cJ4_resize 64 = .ok (.goto 21, 3) := dk_167 0 21 (dk_at dksJ4_resize_2 16 rfl rfl)
theorem dJ4_resize_67 : decode cJ4_resize 67 = .ok (.iload_n 3, 1) := dk_29 (dk_at dksJ4_resize_2 19 rfl rfl)
theorem dJ4_resize_68 : decode cJ4_resize 68 = .ok (.ifCond .le 9, 3) := dk_158 0 9 (dk_at dksJ4_resize_2 20 rfl rfl)
theorem dJ4_resize_71 : decode cJ4_resize 71 = .ok (.iload_n 3, 1) := dk_29 (dk_at dksJ4_resize_2 23 rfl rfl)
theorem dJ4_resize_72 : decode cJ4_resize 72 = .ok (.istore 4, 2) := dk_54 4 (dk_at dksJ4_resize_3 0 rfl rfl)
theorem dJ4_resize_74 : decode cJ4_resize 74 = .ok (.goto 11, 3) := dk_167 0 11 (dk_at dksJ4_resize_3 2 rfl rfl)
theorem dJ4_resize_77 : decode cJ4_resize 77 = .ok (.bipush 16, 2) := dk_16 16 (dk_at dksJ4_resize_3 5 rfl rfl)
theorem dJ4_resize_79 : decode cJ4_resize 79 = .ok (.istore 4, 2) := dk_54 4 (dk_at dksJ4_resize_3 7 rfl rfl)
theorem dJ4_resize_81 : decode cJ4_resize 81 = .ok (.bipush 12, 2) := dk_16 12 (dk_at dksJ4_resize_3 9 rfl rfl)
theorem dJ4_resize_83 : decode cJ4_resize 83 = .ok (.istore 5, 2) := dk_54 5 (dk_at dksJ4_resize_3 11 rfl rfl)
theorem dJ4_resize_85 : decode cJ4_resize 85 = .ok (.iload 5, 2) := dk_21 5 (dk_at dksJ4_resize_3 13 rfl rfl)
theorem dJ4_resize_87 : decode cJ4_resize 87 = .ok (.ifCond .ne 38, 3) := dk_154 0 38 (dk_at dksJ4_resize_3 15 rfl rfl)
theorem dJ4_resize_90 : decode cJ4_resize 90 = .ok (.iload 4, 2) := dk_21 4 (dk_at dksJ4_resize_3 18 rfl rfl)
theorem dJ4_resize_92 : decode cJ4_resize 92 = .ok (.i2f, 1) := dk_134 (dk_at dksJ4_resize_3 20 rfl rfl)
theorem dJ4_resize_93 : decode cJ4_resize 93 = .ok (.aload_n 0, 1) := dk_42 (dk_at dksJ4_resize_3 21 rfl rfl)
theorem dJ4_resize_94 : decode cJ4_resize 94 = .ok (.getfield 81, 3) := dk_180 0 81 (dk_at dksJ4_resize_4 0 rfl rfl)
theorem dJ4_resize_97 : decode cJ4_resize 97 = .ok (.fmul, 1) := dk_106 (dk_at dksJ4_resize_4 3 rfl rfl)
theorem dJ4_resize_98 : decode cJ4_resize 98 = .ok (.fstore 6, 2) := dk_56 6 (dk_at dksJ4_resize_4 4 rfl rfl)
theorem dJ4_resize_100 : decode cJ4_resize 100 = .ok (.iload 4, 2) := dk_21 4 (dk_at dksJ4_resize_4 6 rfl rfl)
theorem dJ4_resize_102 : decode cJ4_resize 102 = .ok (.ldc 42, 2) := dk_18 42 (dk_at dksJ4_resize_4 8 rfl rfl)
theorem dJ4_resize_104 : decode cJ4_resize 104 = .ok (.if_icmp .ge 17, 3) := dk_162 0 17 (dk_at dksJ4_resize_4 10 rfl rfl)
theorem dJ4_resize_107 : decode cJ4_resize 107 = .ok (.fload 6, 2) := dk_23 6 (dk_at dksJ4_resize_4 13 rfl rfl)
theorem dJ4_resize_109 : decode cJ4_resize 109 = .ok (.ldc 210, 2) := dk_18 210 (dk_at dksJ4_resize_4 15 rfl rfl)
theorem dJ4_resize_111 : decode cJ4_resize 111 = .ok (.fcmp .g, 1) := dk_150 (dk_at dksJ4_resize_4 17 rfl rfl)
theorem dJ4_resize_112 : decode cJ4_resize 112 = .ok (.ifCond .ge 9, 3) := dk_156 0 9 (dk_at dksJ4_resize_4 18 rfl rfl)
theorem dJ4_resize_115 : decode cJ4_resize 115 = .ok (.fload 6, 2) := dk_23 6 (dk_at dksJ4_resize_4 21 rfl rfl)
theorem dJ4_resize_117 : decode cJ4_resize 117 = .ok (.f2i, 1) := dk_139 (dk_at dksJ4_resize_4 23 rfl rfl)
theorem dJ4_resize_118 : decode cJ4_resize 118 = .ok (.goto 5, 3) := dk_167 0 5 (dk_at dksJ4_resize_5 0 rfl rfl)
theorem dJ4_resize_121 : decode cJ4_resize 121 = .ok (.ldc 209, 2) := dk_18 209 (dk_at dksJ4_resize_5 3 rfl rfl)
theorem dJ4_resize_123 : decode cJ4_resize 123 = .ok (.istore 5, 2) := dk_54 5 (dk_at dksJ4_resize_5 5 rfl rfl)
theorem dJ4_resize_125 : decode cJ4_resize 125 = .ok (.aload_n 0, 1) := dk_42 (dk_at dksJ4_resize_5 7 rfl rfl)
theorem dJ4_resize_126 : decode cJ4_resize 126 = .ok (.iload 5, 2) := dk_21 5 (dk_at dksJ4_resize_5 8 rfl rfl)
theorem dJ4_resize_128 : decode cJ4_resize 128 = .ok (.putfield 88, 3) := dk_181 0 88 (dk_at dksJ4_resize_5 10 rfl rfl)
theorem dJ4_resize_131 : decode cJ4_resize 131 = .ok (.iload 4, 2) := dk_21 4 (dk_at dksJ4_resize_5 13 rfl rfl)
theorem dJ4_resize_133 : decode cJ4_resize 133 = .ok (.anewarray 163, 3) := dk_189 0 163 (dk_at dksJ4_resize_5 15 rfl rfl)
theorem dJ4_resize_136 : decode cJ4_resize 136 = .ok (.astore 6, 2) := dk_58 6 (dk_at dksJ4_resize_5 18 rfl rfl)
theorem dJ4_resize_138 : decode cJ4_resize 138 = .ok (.aload_n 0, 1) := dk_42 (dk_at dksJ4_resize_5 20 rfl rfl)
theorem dJ4_resize_139 : decode cJ4_resize 139 = .ok (.aload 6, 2) := dk_25 6 (dk_at dksJ4_resize_5 21 rfl rfl)
theorem dJ4_resize_141 : decode cJ4_resize 141 = .ok (.putfield 105, 3) := dk_181 0 105 (dk_at dksJ4_resize_6 0 rfl rfl)
theorem dJ4_resize_144 : decode cJ4_resize 144 = .ok (.aload_n 1, 1) := dk_43 (dk_at dksJ4_resize_6 3 rfl rfl)
theorem dJ4_resize_145 : decode cJ4_resize 145 = .ok (.ifnull 208, 3) := dk_198 0 208 (dk_at dksJ4_resize_6 4 rfl rfl)
theorem dJ4_resize_148 : decode cJ4_resize 148 = .ok (.iconst 0, 1) := dk_3 (dk_at dksJ4_resize_6 7 rfl rfl)
theorem dJ4_resize_149 : decode cJ4_resize 149 = .ok (.istore 7, 2) := dk_54 7 (dk_at dksJ4_resize_6 8 rfl rfl)
theorem dJ4_resize_151 : decode cJ4_resize 151 = .ok (.iload 7, 2) := dk_21 7 (dk_at dksJ4_resize_6 10 rfl rfl)
theorem dJ4_resize_153 : decode cJ4_resize 153 = .ok (.iload_n 2, 1) := dk_28 (dk_at dksJ4_resize_6 12 rfl rfl)
theorem dJ4_resize_154 : decode cJ4_resize 154 = .ok (.if_icmp .ge 199, 3) := dk_162 0 199 (dk_at dksJ4_resize_6 13 rfl rfl)
theorem dJ4_resize_157 : decode cJ4_resize 157 = .ok (.aload_n 1, 1) := dk_43 (dk_at dksJ4_resize_6 16 rfl rfl)
theorem dJ4_resize_158 : decode cJ4_resize 158 = .ok (.iload 7, 2) := dk_21 7 (dk_at dksJ4_resize_6 17 rfl rfl)
theorem dJ4_resize_160 : decode cJ4_resize 160 = .ok (.aaload, 1) := dk_50 (dk_at dksJ4_resize_6 19 rfl rfl)
theorem dJ4_resize_161 : decode cJ4_resize 161 = .ok (.dup, 1) := dk_89 (dk_at dksJ4_resize_6 20 rfl rfl)
theorem dJ4_resize_162 : decode cJ4_resize 162 = .ok (.astore 8, 2) := dk_58 8 (dk_at dksJ4_resize_6 21 rfl rfl)
theorem dJ4_resize_164 : decode cJ4_resize 164 = .ok (.ifnull 183, 3) := dk_198 0 183 (dk_at dksJ4_resize_7 0 rfl rfl)
theorem dJ4_resize_167 : decode cJ4_resize 167 = .ok (.aload_n 1, 1) := dk_43 (dk_at dksJ4_resize_7 3 rfl rfl)
theorem dJ4_resize_168 : decode cJ4_resize 168 = .ok (.iload 7, 2) := dk_21 7 (dk_at dksJ4_resize_7 4 rfl rfl)
theorem dJ4_resize_170 : decode cJ4_resize 170 = .ok (.aconst_null, 1) := dk_1 (dk_at dksJ4_resize_7 6 rfl rfl)
theorem dJ4_resize_171 : decode cJ4_resize 171 = .ok (.aastore, 1) := dk_83 (dk_at dksJ4_resize_7 7 rfl rfl)
theorem dJ4_resize_172 : decode cJ4_resize 172 = .ok (.aload 8, 2) := dk_25 8 (dk_at dksJ4_resize_7 8 rfl rfl)
theorem dJ4_resize_174 : decode cJ4_resize 174 = .ok (.getfield 177, 3) := dk_180 0 177 (dk_at dksJ4_resize_7 10 rfl rfl)
theorem dJ4_resize_177 : decode cJ4_resize 177 = .ok (.ifnonnull 21, 3) := dk_199 0 21 (dk_at dksJ4_resize_7 13 rfl rfl)
theorem dJ4_resize_180 : decode cJ4_resize 180 = .ok (.aload 6, 2) := dk_25 6 (dk_at dksJ4_resize_7 16 rfl rfl)
theorem dJ4_resize_182 : decode cJ4_resize 182 = .ok (.aload 8, 2) := dk_25 8 (dk_at dksJ4_resize_7 18 rfl rfl)
theorem dJ4_resize_184 : decode cJ4_resize 184 = .ok (.getfield 168, 3) := dk_180 0 168 (dk_at dksJ4_resize_7 20 rfl rfl)
theorem dJ4_resize_187 : decode cJ4_resize 187 = .ok (.iload 4, 2) := dk_21 4 (dk_at dksJ4_resize_8 0 rfl rfl)
theorem dJ4_resize_189 : decode cJ4_resize 189 = .ok (.iconst 1, 1) := dk_4 (dk_at dksJ4_resize_8 2 rfl rfl)
theorem dJ4_resize_190 : decode cJ4_resize 190 = .ok (.isub, 1) := dk_100 (dk_at dksJ4_resize_8 3 rfl rfl)
theorem dJ4_resize_191 : decode cJ4_resize 191 = .ok (.iand, 1) := dk_126 (dk_at dksJ4_resize_8 4 rfl rfl)
theorem dJ4_resize_192 : decode cJ4_resize 192 = .ok (.aload 8, 2) := dk_25 8 (dk_at dksJ4_resize_8 5 rfl rfl)
theorem dJ4_resize_194 : decode cJ4_resize 194 = .ok (.aastore, 1) := dk_83 (dk_at dksJ4_resize_8 7 rfl rfl)
theorem dJ4_resize_195 : decode cJ4_resize 195 = .ok (.goto 152, 3) := dk_167 0 152 (dk_at dksJ4_resize_8 8 rfl rfl)
theorem dJ4_resize_198 : decode cJ4_resize 198 = .ok (.aload 8, 2) := dk_25 8 (dk_at dksJ4_resize_8 11 rfl rfl)
theorem dJ4_resize_200 : decode cJ4_resize 200 = .ok (.instanceof 180, 3) := dk_193 0 180 (dk_at dksJ4_resize_8 13 rfl rfl)
theorem dJ4_resize_203 : decode cJ4_resize 203 = .ok (.ifCond .eq 20, 3) := dk_153 0 20 (dk_at dksJ4_resize_8 16 rfl rfl)
theorem dJ4_resize_206 : decode cJ4_resize 206 = .ok (.aload 8, 2) := dk_25 8 (dk_at dksJ4_resize_8 19 rfl rfl)
theorem dJ4_resize_208 : decode cJ4_resize 208 = .ok (.checkcast 180, 3) := dk_192 0 180 (dk_at dksJ4_resize_8 21 rfl rfl)
theorem dJ4_resize_211 : decode cJ4_resize 211 = .ok (.aload_n 0, 1) := dk_42 (dk_at dksJ4_resize_9 0 rfl rfl)
theorem dJ4_resize_212 : decode cJ4_resize 212 = .ok (.aload 6, 2) := dk_25 6 (dk_at dksJ4_resize_9 1 rfl rfl)
theorem dJ4_resize_214 : decode cJ4_resize 214 = .ok (.iload 7, 2) := dk_21 7 (dk_at dksJ4_resize_9 3 rfl rfl)
theorem dJ4_resize_216 : decode cJ4_resize 216 = .ok (.iload_n 2, 1) := dk_28 (dk_at dksJ4_resize_9 5 rfl rfl)
theorem dJ4_resize_217 : decode cJ4_resize 217 = .ok (.invokevirtual 211, 3) := dk_182 0 211 (dk_at dksJ4_resize_9 6 rfl rfl)
theorem dJ4_resize_220 : decode cJ4_resize 220 = .ok (.goto 127, 3) := dk_167 0 127 (dk_at dksJ4_resize_9 9 rfl rfl)
theorem dJ4_resize_223 : decode cJ4_resize 223 = .ok (.aconst_null, 1) := dk_1 (dk_at dksJ4_resize_9 12 rfl rfl)
theorem dJ4_resize_224 : decode cJ4_resize 224 = .ok (.astore 9, 2) := dk_58 9 (dk_at dksJ4_resize_9 13 rfl rfl)
theorem dJ4_resize_226 : decode cJ4_resize 226 = .ok (.aconst_null, 1) := dk_1 (dk_at dksJ4_resize_9 15 rfl rfl)
theorem dJ4_resize_227 : decode cJ4_resize 227 = .ok (.astore 10, 2) := dk_58 10 (dk_at dksJ4_resize_9 16 rfl rfl)
theorem dJ4_resize_229 : decode cJ4_resize 229 = .ok (.aconst_null, 1) := dk_1 (dk_at dksJ4_resize_9 18 rfl rfl)
theorem dJ4_resize_230 : decode cJ4_resize 230 = .ok (.astore 11, 2) := dk_58 11 (dk_at dksJ4_resize_9 19 rfl rfl)
theorem dJ4_resize_232 : decode cJ4_resize 232 = .ok (.aconst_null, 1) := dk_1 (dk_at dksJ4_resize_9 21 rfl rfl)
theorem dJ4_resize_233 : decode cJ4_resize 233 = .ok (.astore 12, 2) := dk_58 12 (dk_at dksJ4_resize_9 22 rfl rfl)
theorem dJ4_resize_235 : decode cJ4_resize 235 = .ok (.aload 8, 2) := dk_25 8 (dk_at dksJ4_resize_10 0 rfl rfl)
theorem dJ4_resize_237 : decode cJ4_resize 237 = .ok (.getfield 177, 3) := dk_180 0 177 (dk_at dksJ4_resize_10 2 rfl rfl)
theorem dJ4_resize_240 : decode cJ4_resize 240 = .ok (.astore 13, 2) := dk_58 13 (dk_at dksJ4_resize_10 5 rfl rfl)
theorem dJ4_resize_242 : decode cJ4_resize 242 = .ok (.aload 8, 2) := dk_25 8 (dk_at dksJ4_resize_10 7 rfl rfl)
theorem dJ4_resize_244 : decode cJ4_resize 244 = .ok (.getfield 168, 3) := dk_180 0 168 (dk_at dksJ4_resize_10 9 rfl rfl)
theorem dJ4_resize_247 : decode cJ4_resize 247 = .ok (.iload_n 2, 1) := dk_28 (dk_at dksJ4_resize_10 12 rfl rfl)
theorem dJ4_resize_248 : decode cJ4_resize 248 = .ok (.iand, 1) := dk_126 (dk_at dksJ4_resize_10 13 rfl rfl)
theorem dJ4_resize_249 : decode cJ4_resize 249 = .ok (.ifCond .ne 29, 3) := dk_154 0 29 (dk_at dksJ4_resize_10 14 rfl rfl)
theorem dJ4_resize_252 : decode cJ4_resize 252 = .ok (.aload 10, 2) := dk_25 10 (dk_at dksJ4_resize_10 17 rfl rfl)
theorem dJ4_resize_254 : decode cJ4_resize 254 = .ok (.ifnonnull 10, 3) := dk_199 0 10 (dk_at dksJ4_resize_10 19 rfl rfl)
theorem dJ4_resize_257 : decode cJ4_resize 257 = .ok (.aload 8, 2) := dk_25 8 (dk_at dksJ4_resize_10 22 rfl rfl)
theorem dJ4_resize_259 : decode cJ4_resize 259 = .ok (.astore 9, 2) := dk_58 9 (dk_at dksJ4_resize_11 0 rfl rfl)
theorem dJ4_resize_261 : decode cJ4_resize 261 = .ok (.goto 10, 3) := dk_167 0 10 (dk_at dksJ4_resize_11 2 rfl rfl)
theorem dJ4_resize_264 : decode cJ4_resize 264 = .ok (.aload 10, 2) := dk_25 10 (dk_at dksJ4_resize_11 5 rfl rfl)
theorem dJ4_resize_266 : decode cJ4_resize 266 = .ok (.aload 8, 2) := dk_25 8 (dk_at dksJ4_resize_11 7 rfl rfl)
theorem dJ4_resize_268 : decode cJ4_resize 268 = .ok (.putfield 177, 3) := dk_181 0 177 (dk_at dksJ4_resize_11 9 rfl rfl)
theorem dJ4_resize_271 : decode cJ4_resize 271 = .ok (.aload 8, 2) := dk_25 8 (dk_at dksJ4_resize_11 12 rfl rfl)
theorem dJ4_resize_273 : decode cJ4_resize 273 = .ok (.astore 10, 2) := dk_58 10 (dk_at dksJ4_resize_11 14 rfl rfl)
theorem dJ4_resize_275 : decode cJ4_resize 275 = .ok (.goto 26, 3) := dk_167 0 26 (dk_at dksJ4_resize_11 16 rfl rfl)
theorem dJ4_resize_278 : decode cJ4_resize 278 = .ok (.aload 12, 2) := dk_25 12 (dk_at dksJ4_resize_11 19 rfl rfl)
theorem dJ4_resize_280 : decode cJ4_resize 280 = .ok (.ifnonnull 10, 3) := dk_199 0 10 (dk_at dksJ4_resize_11 21 rfl rfl)
theorem dJ4_resize_283 : decode cJ4_resize 283 = .ok (.aload 8, 2) := dk_25 8 (dk_at dksJ4_resize_12 0 rfl rfl)
theorem dJ4_resize_285 : decode cJ4_resize 285 = .ok (.astore 11, 2) := dk_58 11 (dk_at dksJ4_resize_12 2 rfl rfl)
theorem dJ4_resize_287 : decode cJ4_resize 287 = .ok (.goto 10, 3) := dk_167 0 10 (dk_at dksJ4_resize_12 4 rfl rfl)
theorem dJ4_resize_290 : decode cJ4_resize 290 = .ok (.aload 12, 2) := dk_25 12 (dk_at dksJ4_resize_12 7 rfl rfl)
theorem dJ4_resize_292 : decode cJ4_resize 292 = .ok (.aload 8, 2) := dk_25 8 (dk_at dksJ4_resize_12 9 rfl rfl)
theorem dJ4_resize_294 : decode cJ4_resize 294 = .ok (.putfield 177, 3) := dk_181 0 177 (dk_at dksJ4_resize_12 11 rfl rfl)
theorem dJ4_resize_297 : decode cJ4_resize 297 = .ok (.aload 8, 2) := dk_25 8 (dk_at dksJ4_resize_12 14 rfl rfl)
theorem dJ4_resize_299 : decode cJ4_resize 299 = .ok (.astore 12, 2) := dk_58 12 (dk_at dksJ4_resize_12 16 rfl rfl)
theorem dJ4_resize_301 : decode cJ4_resize 301 = .ok (.aload 13, 2) := dk_25 13 (dk_at dksJ4_resize_12 18 rfl rfl)
theorem dJ4_resize_303 : decode cJ4_resize 303 = .ok (.dup, 1) := dk_89 (dk_at dksJ4_resize_12 20 rfl rfl)
theorem dJ4_resize_304 : decode cJ4_resize 304 = .ok (.astore 8, 2) := dk_58 8 (dk_at dksJ4_resize_12 21 rfl rfl)
theorem dJ4_resize_306 : decode cJ4_resize 306 = .ok (.ifnonnull (-71), 3) := dk_199 255 185 (dk_at dksJ4_resize_13 0 rfl rfl)
theorem dJ4_resize_309 : decode cJ4_resize 309 = .ok (.aload 10, 2) := dk_25 10 (dk_at dksJ4_resize_13 3 rfl rfl)
theorem dJ4_resize_311 : decode cJ4_resize 311 = .ok (.ifnull 16, 3) := dk_198 0 16 (dk_at dksJ4_resize_13 5 rfl rfl)
theorem dJ4_resize_314 : decode cJ4_resize 314 = .ok (.aload 10, 2) := dk_25 10 (dk_at dksJ4_resize_13 8 rfl rfl)
theorem dJ4_resize_316 : decode cJ4_resize 316 = .ok (.aconst_null, 1) := dk_1 (dk_at dksJ4_resize_13 10 rfl rfl)
theorem dJ4_resize_317 : decode cJ4_resize 317 = .ok (.putfield 177, 3) := dk_181 0 177 (dk_at dksJ4_resize_13 11 rfl rfl)
theorem dJ4_resize_320 : decode cJ4_resize 320 = .ok (.aload 6, 2) := dk_25 6 (dk_at dksJ4_resize_13 14 rfl rfl)
theorem dJ4_resize_322 : decode cJ4_resize 322 = .ok (.iload 7, 2) := dk_21 7 (dk_at dksJ4_resize_13 16 rfl rfl)
theorem dJ4_resize_324 : decode cJ4_resize 324 = .ok (.aload 9, 2) := dk_25 9 (dk_at dksJ4_resize_13 18 rfl rfl)
theorem dJ4_resize_326 : decode cJ4_resize 326 = .ok (.aastore, 1) := dk_83 (dk_at dksJ4_resize_13 20 rfl rfl)
theorem dJ4_resize_327 : decode cJ4_resize 327 = .ok (.aload 12, 2) := dk_25 12 (dk_at dksJ4_resize_13 21 rfl rfl)
theorem dJ4_resize_329 : decode cJ4_resize 329 = .ok (.ifnull 18, 3) := dk_198 0 18 (dk_at dksJ4_resize_14 0 rfl rfl)
theorem dJ4_resize_332 : decode cJ4_resize 332 = .ok (.aload 12, 2) := dk_25 12 (dk_at dksJ4_resize_14 3 rfl rfl)
theorem dJ4_resize_334 : decode cJ4_resize 334 = .ok (.aconst_null, 1) := dk_1 (dk_at dksJ4_resize_14 5 rfl rfl)
theorem dJ4_resize_335 : decode cJ4_resize 335 = .ok (.putfield 177, 3) := dk_181 0 177 (dk_at dksJ4_resize_14 6 rfl rfl)
theorem dJ4_resize_338 : decode cJ4_resize 338 = .ok (.aload 6, 2) := dk_25 6 (dk_at dksJ4_resize_14 9 rfl rfl)
theorem dJ4_resize_340 : decode cJ4_resize 340 = .ok (.iload 7, 2) := dk_21 7 (dk_at dksJ4_resize_14 11 rfl rfl)
theorem dJ4_resize_342 : decode cJ4_resize 342 = .ok (.iload_n 2, 1) := dk_28 (dk_at dksJ4_resize_14 13 rfl rfl)
theorem dJ4_resize_343 : decode cJ4_resize 343 = .ok (.iadd, 1) := dk_96 (dk_at dksJ4_resize_14 14 rfl rfl)
theorem dJ4_resize_344 : decode cJ4_resize 344 = .ok (.aload 11, 2) := dk_25 11 (dk_at dksJ4_resize_14 15 rfl rfl)
theorem dJ4_resize_346 : decode cJ4_resize 346 = .ok (.aastore, 1) := dk_83 (dk_at dksJ4_resize_14 17 rfl rfl)
theorem dJ4_resize_347 : decode cJ4_resize 347 = .ok (.iinc 7 1, 3) := dk_132 7 1 (dk_at dksJ4_resize_14 18 rfl rfl)
theorem dJ4_resize_350 : decode cJ4_resize 350 = .ok (.goto (-199), 3) := dk_167 255 57 (dk_at dksJ4_resize_14 21 rfl rfl)
theorem dJ4_resize_353 : decode cJ4_resize 353 = .ok (.aload 6, 2) := dk_25 6 (dk_at dksJ4_resize_15 0 rfl rfl)
theorem dJ4_resize_355 : decode cJ4_resize 355 = .ok (.areturn, 1) := dk_176 (dk_at dksJ4_resize_15 2 rfl rfl)
abbrev cJ4_replacementNode : ByteArray := prog_65_method_47_code
def yJ4_replacementNode : MethodName := ⟨RJ4, "replacementNode", "(Ljava/util/HashMap$Node;Ljava/util/HashMap$Node;)Ljava/util/HashMap$Node;"⟩
def dkwJ4_replacementNode_0 : List UInt8 := [187, 0, 163, 89, 43, 180, 0, 168, 43, 180, 0, 170, 43, 180, 0, 162, 44, 183, 1, 119, 176]
abbrev dktJ4_replacementNode_0 : List UInt8 := dkwJ4_replacementNode_0 ++ []
theorem dksJ4_replacementNode_0 : cJ4_replacementNode.data.toList.drop 0 = dktJ4_replacementNode_0 := by decide +kernel
theorem dJ4_replacementNode_0 : decode cJ4_replacementNode 0 = .ok (.new 163, 3) := dk_187 0 163 (dk_at dksJ4_replacementNode_0 0 rfl rfl)
theorem dJ4_replacementNode_3 : decode cJ4_replacementNode 3 = .ok (.dup, 1) := dk_89 (dk_at dksJ4_replacementNode_0 3 rfl rfl)
theorem dJ4_replacementNode_4 : decode cJ4_replacementNode 4 = .ok (.aload_n 1, 1) := dk_43 (dk_at dksJ4_replacementNode_0 4 rfl rfl)
theorem dJ4_replacementNode_5 : decode cJ4_replacementNode 5 = .ok (.getfield 168, 3) := dk_180 0 168 (dk_at dksJ4_replacementNode_0 5 rfl rfl)
theorem dJ4_replacementNode_8 : decode cJ4_replacementNode 8 = .ok (.aload_n 1, 1) := dk_43 (dk_at dksJ4_replacementNode_0 8 rfl rfl)
theorem dJ4_replacementNode_9 : decode cJ4_replacementNode 9 = .ok (.getfield 170, 3) := dk_180 0 170 (dk_at dksJ4_replacementNode_0 9 rfl rfl)
theorem dJ4_replacementNode_12 : decode cJ4_replacementNode 12 = .ok (.aload_n 1, 1) := dk_43 (dk_at dksJ4_replacementNode_0 12 rfl rfl)
theorem dJ4_replacementNode_13 : decode cJ4_replacementNode 13 = .ok (.getfield 162, 3) := dk_180 0 162 (dk_at dksJ4_replacementNode_0 13 rfl rfl)
theorem dJ4_replacementNode_16 : decode cJ4_replacementNode 16 = .ok (.aload_n 2, 1) := dk_44 (dk_at dksJ4_replacementNode_0 16 rfl rfl)
theorem dJ4_replacementNode_17 : decode cJ4_replacementNode 17 = .ok (.invokespecial 375, 3) := dk_183 1 119 (dk_at dksJ4_replacementNode_0 17 rfl rfl)
theorem dJ4_replacementNode_20 : decode cJ4_replacementNode 20 = .ok (.areturn, 1) := dk_176 (dk_at dksJ4_replacementNode_0 20 rfl rfl)
abbrev cJ4_newNode : ByteArray := prog_65_method_46_code
def yJ4_newNode : MethodName := ⟨RJ4, "newNode", "(ILjava/lang/Object;Ljava/lang/Object;Ljava/util/HashMap$Node;)Ljava/util/HashMap$Node;"⟩
def dkwJ4_newNode_0 : List UInt8 := [187, 0, 163, 89, 27, 44, 45, 25, 4, 183, 1, 119, 176]
abbrev dktJ4_newNode_0 : List UInt8 := dkwJ4_newNode_0 ++ []
theorem dksJ4_newNode_0 : cJ4_newNode.data.toList.drop 0 = dktJ4_newNode_0 := by decide +kernel
theorem dJ4_newNode_0 : decode cJ4_newNode 0 = .ok (.new 163, 3) := dk_187 0 163 (dk_at dksJ4_newNode_0 0 rfl rfl)
theorem dJ4_newNode_3 : decode cJ4_newNode 3 = .ok (.dup, 1) := dk_89 (dk_at dksJ4_newNode_0 3 rfl rfl)
theorem dJ4_newNode_4 : decode cJ4_newNode 4 = .ok (.iload_n 1, 1) := dk_27 (dk_at dksJ4_newNode_0 4 rfl rfl)
theorem dJ4_newNode_5 : decode cJ4_newNode 5 = .ok (.aload_n 2, 1) := dk_44 (dk_at dksJ4_newNode_0 5 rfl rfl)
theorem dJ4_newNode_6 : decode cJ4_newNode 6 = .ok (.aload_n 3, 1) := dk_45 (dk_at dksJ4_newNode_0 6 rfl rfl)
theorem dJ4_newNode_7 : decode cJ4_newNode 7 = .ok (.aload 4, 2) := dk_25 4 (dk_at dksJ4_newNode_0 7 rfl rfl)
theorem dJ4_newNode_9 : decode cJ4_newNode 9 = .ok (.invokespecial 375, 3) := dk_183 1 119 (dk_at dksJ4_newNode_0 9 rfl rfl)
theorem dJ4_newNode_12 : decode cJ4_newNode 12 = .ok (.areturn, 1) := dk_176 (dk_at dksJ4_newNode_0 12 rfl rfl)
abbrev cJ4_newTreeNode : ByteArray := prog_65_method_48_code
def yJ4_newTreeNode : MethodName := ⟨RJ4, "newTreeNode", "(ILjava/lang/Object;Ljava/lang/Object;Ljava/util/HashMap$Node;)Ljava/util/HashMap$TreeNode;"⟩
def dkwJ4_newTreeNode_0 : List UInt8 := [187, 0, 180, 89, 27, 44, 45, 25, 4, 183, 1, 122, 176]
abbrev dktJ4_newTreeNode_0 : List UInt8 := dkwJ4_newTreeNode_0 ++ []
theorem dksJ4_newTreeNode_0 : cJ4_newTreeNode.data.toList.drop 0 = dktJ4_newTreeNode_0 := by decide +kernel
theorem dJ4_newTreeNode_0 : decode cJ4_newTreeNode 0 = .ok (.new 180, 3) := dk_187 0 180 (dk_at dksJ4_newTreeNode_0 0 rfl rfl)
theorem dJ4_newTreeNode_3 : decode cJ4_newTreeNode 3 = .ok (.dup, 1) := dk_89 (dk_at dksJ4_newTreeNode_0 3 rfl rfl)
theorem dJ4_newTreeNode_4 : decode cJ4_newTreeNode 4 = .ok (.iload_n 1, 1) := dk_27 (dk_at dksJ4_newTreeNode_0 4 rfl rfl)
theorem dJ4_newTreeNode_5 : decode cJ4_newTreeNode 5 = .ok (.aload_n 2, 1) := dk_44 (dk_at dksJ4_newTreeNode_0 5 rfl rfl)
theorem dJ4_newTreeNode_6 : decode cJ4_newTreeNode 6 = .ok (.aload_n 3, 1) := dk_45 (dk_at dksJ4_newTreeNode_0 6 rfl rfl)
theorem dJ4_newTreeNode_7 : decode cJ4_newTreeNode 7 = .ok (.aload 4, 2) := dk_25 4 (dk_at dksJ4_newTreeNode_0 7 rfl rfl)
theorem dJ4_newTreeNode_9 : decode cJ4_newTreeNode 9 = .ok (.invokespecial 378, 3) := dk_183 1 122 (dk_at dksJ4_newTreeNode_0 9 rfl rfl)
theorem dJ4_newTreeNode_12 : decode cJ4_newTreeNode 12 = .ok (.areturn, 1) := dk_176 (dk_at dksJ4_newTreeNode_0 12 rfl rfl)
abbrev cJ4_treeifyBin : ByteArray := prog_65_method_18_code
def yJ4_treeifyBin : MethodName := ⟨RJ4, "treeifyBin", "([Ljava/util/HashMap$Node;I)V"⟩
def dkwJ4_treeifyBin_4 : List UInt8 := [21, 4, 25, 6, 91, 83, 198, 0, 9, 25, 6, 43, 182, 0, 224, 177]
abbrev dktJ4_treeifyBin_4 : List UInt8 := dkwJ4_treeifyBin_4 ++ []
def dkwJ4_treeifyBin_3 : List UInt8 := [25, 7, 25, 8, 181, 0, 223, 25, 8, 58, 7, 25, 5, 180, 0, 177, 89, 58, 5, 199, 255, 209, 43]
abbrev dktJ4_treeifyBin_3 : List UInt8 := dkwJ4_treeifyBin_3 ++ dktJ4_treeifyBin_4
def dkwJ4_treeifyBin_2 : List UInt8 := [182, 0, 215, 58, 8, 25, 7, 199, 0, 10, 25, 8, 58, 6, 167, 0, 17, 25, 8, 25, 7, 181, 0, 219]
abbrev dktJ4_treeifyBin_2 : List UInt8 := dkwJ4_treeifyBin_2 ++ dktJ4_treeifyBin_3
def dkwJ4_treeifyBin_1 : List UInt8 := [100, 28, 126, 89, 54, 4, 50, 89, 58, 5, 198, 0, 75, 1, 58, 6, 1, 58, 7, 42, 25, 5, 1]
abbrev dktJ4_treeifyBin_1 : List UInt8 := dkwJ4_treeifyBin_1 ++ dktJ4_treeifyBin_2
def dkwJ4_treeifyBin_0 : List UInt8 := [43, 198, 0, 12, 43, 190, 89, 62, 16, 64, 162, 0, 11, 42, 182, 0, 117, 87, 167, 0, 91, 43, 29, 4]
abbrev dktJ4_treeifyBin_0 : List UInt8 := dkwJ4_treeifyBin_0 ++ dktJ4_treeifyBin_1
theorem dksJ4_treeifyBin_0 : cJ4_treeifyBin.data.toList.drop 0 = dktJ4_treeifyBin_0 := by decide +kernel
theorem dksJ4_treeifyBin_1 : cJ4_treeifyBin.data.toList.drop 24 = dktJ4_treeifyBin_1 := dk_seg dksJ4_treeifyBin_0 24 rfl rfl
theorem dksJ4_treeifyBin_2 : cJ4_treeifyBin.data.toList.drop 47 = dktJ4_treeifyBin_2 := dk_seg dksJ4_treeifyBin_1 23 rfl rfl
theorem dksJ4_treeifyBin_3 : cJ4_treeifyBin.data.toList.drop 71 = dktJ4_treeifyBin_3 := dk_seg dksJ4_treeifyBin_2 24 rfl rfl
theorem dksJ4_treeifyBin_4 : cJ4_treeifyBin.data.toList.drop 94 = dktJ4_treeifyBin_4 := dk_seg dksJ4_treeifyBin_3 23 rfl rfl
theorem dJ4_treeifyBin_0 : decode cJ4_treeifyBin 0 = .ok (.aload_n 1, 1) := dk_43 (dk_at dksJ4_treeifyBin_0 0 rfl rfl)
theorem dJ4_treeifyBin_1 : decode cJ4_treeifyBin 1 = .ok (.ifnull 12, 3) := dk_198 0 12 (dk_at dksJ4_treeifyBin_0 1 rfl rfl)
theorem dJ4_treeifyBin_4 : decode cJ4_treeifyBin 4 = .ok (.aload_n 1, 1) := dk_43 (dk_at dksJ4_treeifyBin_0 4 rfl rfl)
theorem dJ4_treeifyBin_5 : decode cJ4_treeifyBin 5 = .ok (.arraylength, 1) := dk_190 (dk_at dksJ4_treeifyBin_0 5 rfl rfl)
theorem dJ4_treeifyBin_6 : decode cJ4_treeifyBin 6 = .ok (.dup, 1) := dk_89 (dk_at dksJ4_treeifyBin_0 6 rfl rfl)
theorem dJ4_treeifyBin_7 : decode cJ4_treeifyBin 7 = .ok (.istore_n 3, 1) := dk_62 (dk_at dksJ4_treeifyBin_0 7 rfl rfl)
theorem dJ4_treeifyBin_8 : decode cJ4_treeifyBin 8 = .ok (.bipush 64, 2) := dk_16 64 (dk_at dksJ4_treeifyBin_0 8 rfl rfl)
theorem dJ4_treeifyBin_10 : decode cJ4_treeifyBin 10 = .ok (.if_icmp .ge 11, 3) := dk_162 0 11 (dk_at dksJ4_treeifyBin_0 10 rfl rfl)
theorem dJ4_treeifyBin_13 : decode cJ4_treeifyBin 13 = .ok (.aload_n 0, 1) := dk_42 (dk_at dksJ4_treeifyBin_0 13 rfl rfl)
theorem dJ4_treeifyBin_14 : decode cJ4_treeifyBin 14 = .ok (.invokevirtual 117, 3) := dk_182 0 117 (dk_at dksJ4_treeifyBin_0 14 rfl rfl)
theorem dJ4_treeifyBin_17 : decode cJ4_treeifyBin 17 = .ok (.pop, 1) := dk_87 (dk_at dksJ4_treeifyBin_0 17 rfl rfl)
theorem dJ4_treeifyBin_18 : decode cJ4_treeifyBin 18 = .ok (.goto 91, 3) := dk_167 0 91 (dk_at dksJ4_treeifyBin_0 18 rfl rfl)
theorem dJ4_treeifyBin_21 : decode cJ4_treeifyBin 21 = .ok (.aload_n 1, 1) := dk_43 (dk_at dksJ4_treeifyBin_0 21 rfl rfl)
theorem dJ4_treeifyBin_22 : decode cJ4_treeifyBin 22 = .ok (.iload_n 3, 1) := dk_29 (dk_at dksJ4_treeifyBin_0 22 rfl rfl)
theorem dJ4_treeifyBin_23 : decode cJ4_treeifyBin 23 = .ok (.iconst 1, 1) := dk_4 (dk_at dksJ4_treeifyBin_0 23 rfl rfl)
theorem dJ4_treeifyBin_24 : decode cJ4_treeifyBin 24 = .ok (.isub, 1) := dk_100 (dk_at dksJ4_treeifyBin_1 0 rfl rfl)
theorem dJ4_treeifyBin_25 : decode cJ4_treeifyBin 25 = .ok (.iload_n 2, 1) := dk_28 (dk_at dksJ4_treeifyBin_1 1 rfl rfl)
theorem dJ4_treeifyBin_26 : decode cJ4_treeifyBin 26 = .ok (.iand, 1) := dk_126 (dk_at dksJ4_treeifyBin_1 2 rfl rfl)
theorem dJ4_treeifyBin_27 : decode cJ4_treeifyBin 27 = .ok (.dup, 1) := dk_89 (dk_at dksJ4_treeifyBin_1 3 rfl rfl)
theorem dJ4_treeifyBin_28 : decode cJ4_treeifyBin 28 = .ok (.istore 4, 2) := dk_54 4 (dk_at dksJ4_treeifyBin_1 4 rfl rfl)
theorem dJ4_treeifyBin_30 : decode cJ4_treeifyBin 30 = .ok (.aaload, 1) := dk_50 (dk_at dksJ4_treeifyBin_1 6 rfl rfl)
theorem dJ4_treeifyBin_31 : decode cJ4_treeifyBin 31 = .ok (.dup, 1) := dk_89 (dk_at dksJ4_treeifyBin_1 7 rfl rfl)
theorem dJ4_treeifyBin_32 : decode cJ4_treeifyBin 32 = .ok (.astore 5, 2) := dk_58 5 (dk_at dksJ4_treeifyBin_1 8 rfl rfl)
theorem dJ4_treeifyBin_34 : decode cJ4_treeifyBin 34 = .ok (.ifnull 75, 3) := dk_198 0 75 (dk_at dksJ4_treeifyBin_1 10 rfl rfl)
theorem dJ4_treeifyBin_37 : decode cJ4_treeifyBin 37 = .ok (.aconst_null, 1) := dk_1 (dk_at dksJ4_treeifyBin_1 13 rfl rfl)
theorem dJ4_treeifyBin_38 : decode cJ4_treeifyBin 38 = .ok (.astore 6, 2) := dk_58 6 (dk_at dksJ4_treeifyBin_1 14 rfl rfl)
theorem dJ4_treeifyBin_40 : decode cJ4_treeifyBin 40 = .ok (.aconst_null, 1) := dk_1 (dk_at dksJ4_treeifyBin_1 16 rfl rfl)
theorem dJ4_treeifyBin_41 : decode cJ4_treeifyBin 41 = .ok (.astore 7, 2) := dk_58 7 (dk_at dksJ4_treeifyBin_1 17 rfl rfl)
theorem dJ4_treeifyBin_43 : decode cJ4_treeifyBin 43 = .ok (.aload_n 0, 1) := dk_42 (dk_at dksJ4_treeifyBin_1 19 rfl rfl)
theorem dJ4_treeifyBin_44 : decode cJ4_treeifyBin 44 = .ok (.aload 5, 2) := dk_25 5 (dk_at dksJ4_treeifyBin_1 20 rfl rfl)
theorem dJ4_treeifyBin_46 : decode cJ4_treeifyBin 46 = .ok (.aconst_null, 1) := dk_1 (dk_at dksJ4_treeifyBin_1 22 rfl rfl)
theorem dJ4_treeifyBin_47 : decode cJ4_treeifyBin 47 = .ok (.invokevirtual 215, 3) := dk_182 0 215 (dk_at dksJ4_treeifyBin_2 0 rfl rfl)
theorem dJ4_treeifyBin_50 : decode cJ4_treeifyBin 50 = .ok (.astore 8, 2) := dk_58 8 (dk_at dksJ4_treeifyBin_2 3 rfl rfl)
theorem dJ4_treeifyBin_52 : decode cJ4_treeifyBin 52 = .ok (.aload 7, 2) := dk_25 7 (dk_at dksJ4_treeifyBin_2 5 rfl rfl)
theorem dJ4_treeifyBin_54 : decode cJ4_treeifyBin 54 = .ok (.ifnonnull 10, 3) := dk_199 0 10 (dk_at dksJ4_treeifyBin_2 7 rfl rfl)
theorem dJ4_treeifyBin_57 : decode cJ4_treeifyBin 57 = .ok (.aload 8, 2) := dk_25 8 (dk_at dksJ4_treeifyBin_2 10 rfl rfl)
theorem dJ4_treeifyBin_59 : decode cJ4_treeifyBin 59 = .ok (.astore 6, 2) := dk_58 6 (dk_at dksJ4_treeifyBin_2 12 rfl rfl)
theorem dJ4_treeifyBin_61 : decode cJ4_treeifyBin 61 = .ok (.goto 17, 3) := dk_167 0 17 (dk_at dksJ4_treeifyBin_2 14 rfl rfl)
theorem dJ4_treeifyBin_64 : decode cJ4_treeifyBin 64 = .ok (.aload 8, 2) := dk_25 8 (dk_at dksJ4_treeifyBin_2 17 rfl rfl)
theorem dJ4_treeifyBin_66 : decode cJ4_treeifyBin 66 = .ok (.aload 7, 2) := dk_25 7 (dk_at dksJ4_treeifyBin_2 19 rfl rfl)
theorem dJ4_treeifyBin_68 : decode cJ4_treeifyBin 68 = .ok (.putfield 219, 3) := dk_181 0 219 (dk_at dksJ4_treeifyBin_2 21 rfl rfl)
theorem dJ4_treeifyBin_71 : decode cJ4_treeifyBin 71 = .ok (.aload 7, 2) := dk_25 7 (dk_at dksJ4_treeifyBin_3 0 rfl rfl)
theorem dJ4_treeifyBin_73 : decode cJ4_treeifyBin 73 = .ok (.aload 8, 2) := dk_25 8 (dk_at dksJ4_treeifyBin_3 2 rfl rfl)
theorem dJ4_treeifyBin_75 : decode cJ4_treeifyBin 75 = .ok (.putfield 223, 3) := dk_181 0 223 (dk_at dksJ4_treeifyBin_3 4 rfl rfl)
theorem dJ4_treeifyBin_78 : decode cJ4_treeifyBin 78 = .ok (.aload 8, 2) := dk_25 8 (dk_at dksJ4_treeifyBin_3 7 rfl rfl)
theorem dJ4_treeifyBin_80 : decode cJ4_treeifyBin 80 = .ok (.astore 7, 2) := dk_58 7 (dk_at dksJ4_treeifyBin_3 9 rfl rfl)
theorem dJ4_treeifyBin_82 : decode cJ4_treeifyBin 82 = .ok (.aload 5, 2) := dk_25 5 (dk_at dksJ4_treeifyBin_3 11 rfl rfl)
theorem dJ4_treeifyBin_84 : decode cJ4_treeifyBin 84 = .ok (.getfield 177, 3) := dk_180 0 177 (dk_at dksJ4_treeifyBin_3 13 rfl rfl)
theorem dJ4_treeifyBin_87 : decode cJ4_treeifyBin 87 = .ok (.dup, 1) := dk_89 (dk_at dksJ4_treeifyBin_3 16 rfl rfl)
theorem dJ4_treeifyBin_88 : decode cJ4_treeifyBin 88 = .ok (.astore 5, 2) := dk_58 5 (dk_at dksJ4_treeifyBin_3 17 rfl rfl)
theorem dJ4_treeifyBin_90 : decode cJ4_treeifyBin 90 = .ok (.ifnonnull (-47), 3) := dk_199 255 209 (dk_at dksJ4_treeifyBin_3 19 rfl rfl)
theorem dJ4_treeifyBin_93 : decode cJ4_treeifyBin 93 = .ok (.aload_n 1, 1) := dk_43 (dk_at dksJ4_treeifyBin_3 22 rfl rfl)
theorem dJ4_treeifyBin_94 : decode cJ4_treeifyBin 94 = .ok (.iload 4, 2) := dk_21 4 (dk_at dksJ4_treeifyBin_4 0 rfl rfl)
theorem dJ4_treeifyBin_96 : decode cJ4_treeifyBin 96 = .ok (.aload 6, 2) := dk_25 6 (dk_at dksJ4_treeifyBin_4 2 rfl rfl)
theorem dJ4_treeifyBin_98 : decode cJ4_treeifyBin 98 = .ok (.dup_x2, 1) := dk_91 (dk_at dksJ4_treeifyBin_4 4 rfl rfl)
theorem dJ4_treeifyBin_99 : decode cJ4_treeifyBin 99 = .ok (.aastore, 1) := dk_83 (dk_at dksJ4_treeifyBin_4 5 rfl rfl)
theorem dJ4_treeifyBin_100 : decode cJ4_treeifyBin 100 = .ok (.ifnull 9, 3) := dk_198 0 9 (dk_at dksJ4_treeifyBin_4 6 rfl rfl)
theorem dJ4_treeifyBin_103 : decode cJ4_treeifyBin 103 = .ok (.aload 6, 2) := dk_25 6 (dk_at dksJ4_treeifyBin_4 9 rfl rfl)
theorem dJ4_treeifyBin_105 : decode cJ4_treeifyBin 105 = .ok (.aload_n 1, 1) := dk_43 (dk_at dksJ4_treeifyBin_4 11 rfl rfl)
theorem dJ4_treeifyBin_106 : decode cJ4_treeifyBin 106 = .ok (.invokevirtual 224, 3) := dk_182 0 224 (dk_at dksJ4_treeifyBin_4 12 rfl rfl)
theorem dJ4_treeifyBin_109 : decode cJ4_treeifyBin 109 = .ok (.return_, 1) := dk_177 (dk_at dksJ4_treeifyBin_4 15 rfl rfl)
abbrev cJ4_replacementTreeNode : ByteArray := prog_65_method_49_code
def yJ4_replacementTreeNode : MethodName := ⟨RJ4, "replacementTreeNode", "(Ljava/util/HashMap$Node;Ljava/util/HashMap$Node;)Ljava/util/HashMap$TreeNode;"⟩
def dkwJ4_replacementTreeNode_0 : List UInt8 := [187, 0, 180, 89, 43, 180, 0, 168, 43, 180, 0, 170, 43, 180, 0, 162, 44, 183, 1, 122, 176]
abbrev dktJ4_replacementTreeNode_0 : List UInt8 := dkwJ4_replacementTreeNode_0 ++ []
theorem dksJ4_replacementTreeNode_0 : cJ4_replacementTreeNode.data.toList.drop 0 = dktJ4_replacementTreeNode_0 := by decide +kernel
theorem dJ4_replacementTreeNode_0 : decode cJ4_replacementTreeNode 0 = .ok (.new 180, 3) := dk_187 0 180 (dk_at dksJ4_replacementTreeNode_0 0 rfl rfl)
theorem dJ4_replacementTreeNode_3 : decode cJ4_replacementTreeNode 3 = .ok (.dup, 1) := dk_89 (dk_at dksJ4_replacementTreeNode_0 3 rfl rfl)
theorem dJ4_replacementTreeNode_4 : decode cJ4_replacementTreeNode 4 = .ok (.aload_n 1, 1) := dk_43 (dk_at dksJ4_replacementTreeNode_0 4 rfl rfl)
theorem dJ4_replacementTreeNode_5 : decode cJ4_replacementTreeNode 5 = .ok (.getfield 168, 3) := dk_180 0 168 (dk_at dksJ4_replacementTreeNode_0 5 rfl rfl)
theorem dJ4_replacementTreeNode_8 : decode cJ4_replacementTreeNode 8 = .ok (.aload_n 1, 1) := dk_43 (dk_at dksJ4_replacementTreeNode_0 8 rfl rfl)
theorem dJ4_replacementTreeNode_9 : decode cJ4_replacementTreeNode 9 = .ok (.getfield 170, 3) := dk_180 0 170 (dk_at dksJ4_replacementTreeNode_0 9 rfl rfl)
theorem dJ4_replacementTreeNode_12 : decode cJ4_replacementTreeNode 12 = .ok (.aload_n 1, 1) := dk_43 (dk_at dksJ4_replacementTreeNode_0 12 rfl rfl)
theorem dJ4_replacementTreeNode_13 : decode cJ4_replacementTreeNode 13 = .ok (.getfield 162, 3) := dk_180 0 162 (dk_at dksJ4_replacementTreeNode_0 13 rfl rfl)
theorem dJ4_replacementTreeNode_16 : decode cJ4_replacementTreeNode 16 = .ok (.aload_n 2, 1) := dk_44 (dk_at dksJ4_replacementTreeNode_0 16 rfl rfl)
theorem dJ4_replacementTreeNode_17 : decode cJ4_replacementTreeNode 17 = .ok (.invokespecial 378, 3) := dk_183 1 122 (dk_at dksJ4_replacementTreeNode_0 17 rfl rfl)
theorem dJ4_replacementTreeNode_20 : decode cJ4_replacementTreeNode 20 = .ok (.areturn, 1) := dk_176 (dk_at dksJ4_replacementTreeNode_0 20 rfl rfl)
abbrev cJ4_afterNodeAccess : ByteArray := prog_65_method_51_code
def yJ4_afterNodeAccess : MethodName := ⟨RJ4, "afterNodeAccess", "(Ljava/util/HashMap$Node;)V"⟩
theorem dJ4_afterNodeAccess_0 : decode cJ4_afterNodeAccess 0 = .ok (.return_, 1) := by decide +kernel
abbrev cJ4_afterNodeInsertion : ByteArray := prog_65_method_52_code
def yJ4_afterNodeInsertion : MethodName := ⟨RJ4, "afterNodeInsertion", "(Z)V"⟩
theorem dJ4_afterNodeInsertion_0 : decode cJ4_afterNodeInsertion 0 = .ok (.return_, 1) := by decide +kernel
abbrev cJ4_removeNode : ByteArray := prog_65_method_21_code
def yJ4_removeNode : MethodName := ⟨RJ4, "removeNode", "(ILjava/lang/Object;Ljava/lang/Object;ZZ)Ljava/util/HashMap$Node;"⟩
def dkwJ4_removeNode_12 : List UInt8 := [181, 0, 156, 42, 25, 10, 182, 0, 236, 25, 10, 176, 1, 176]
abbrev dktJ4_removeNode_12 : List UInt8 := dkwJ4_removeNode_12 ++ []
def dkwJ4_removeNode_11 : List UInt8 := [180, 0, 177, 181, 0, 177, 42, 89, 180, 0, 202, 4, 96, 181, 0, 202, 42, 89, 180, 0, 156, 4, 100]
abbrev dktJ4_removeNode_11 : List UInt8 := dkwJ4_removeNode_11 ++ dktJ4_removeNode_12
def dkwJ4_removeNode_10 : List UInt8 := [25, 10, 25, 7, 166, 0, 16, 25, 6, 21, 9, 25, 10, 180, 0, 177, 83, 167, 0, 13, 25, 7, 25, 10]
abbrev dktJ4_removeNode_10 : List UInt8 := dkwJ4_removeNode_10 ++ dktJ4_removeNode_11
def dkwJ4_removeNode_9 : List UInt8 := [25, 10, 193, 0, 180, 153, 0, 19, 25, 10, 192, 0, 180, 42, 25, 6, 21, 5, 182, 0, 232, 167, 0, 33]
abbrev dktJ4_removeNode_9 : List UInt8 := dkwJ4_removeNode_9 ++ dktJ4_removeNode_10
def dkwJ4_removeNode_8 : List UInt8 := [180, 0, 162, 89, 58, 13, 45, 165, 0, 16, 45, 198, 0, 95, 45, 25, 13, 182, 0, 173, 153, 0, 86]
abbrev dktJ4_removeNode_8 : List UInt8 := dkwJ4_removeNode_8 ++ dktJ4_removeNode_9
def dkwJ4_removeNode_7 : List UInt8 := [25, 11, 180, 0, 177, 89, 58, 11, 199, 255, 203, 25, 10, 198, 0, 116, 21, 4, 153, 0, 28, 25, 10]
abbrev dktJ4_removeNode_7 : List UInt8 := dkwJ4_removeNode_7 ++ dktJ4_removeNode_8
def dkwJ4_removeNode_6 : List UInt8 := [198, 0, 19, 44, 25, 12, 182, 0, 173, 153, 0, 10, 25, 11, 58, 10, 167, 0, 18, 25, 11, 58, 7]
abbrev dktJ4_removeNode_6 : List UInt8 := dkwJ4_removeNode_6 ++ dktJ4_removeNode_7
def dkwJ4_removeNode_5 : List UInt8 := [25, 11, 180, 0, 168, 27, 160, 0, 35, 25, 11, 180, 0, 170, 89, 58, 12, 44, 165, 0, 16, 44]
abbrev dktJ4_removeNode_5 : List UInt8 := dkwJ4_removeNode_5 ++ dktJ4_removeNode_6
def dkwJ4_removeNode_4 : List UInt8 := [25, 7, 193, 0, 180, 153, 0, 18, 25, 7, 192, 0, 180, 27, 44, 182, 0, 182, 58, 10, 167, 0, 59]
abbrev dktJ4_removeNode_4 : List UInt8 := dkwJ4_removeNode_4 ++ dktJ4_removeNode_5
def dkwJ4_removeNode_3 : List UInt8 := [182, 0, 173, 153, 0, 10, 25, 7, 58, 10, 167, 0, 93, 25, 7, 180, 0, 177, 89, 58, 11, 198, 0, 82]
abbrev dktJ4_removeNode_3 : List UInt8 := dkwJ4_removeNode_3 ++ dktJ4_removeNode_4
def dkwJ4_removeNode_2 : List UInt8 := [160, 0, 35, 25, 7, 180, 0, 170, 89, 58, 12, 44, 165, 0, 16, 44, 198, 0, 19, 44, 25, 12]
abbrev dktJ4_removeNode_2 : List UInt8 := dkwJ4_removeNode_2 ++ dktJ4_removeNode_3
def dkwJ4_removeNode_1 : List UInt8 := [100, 27, 126, 89, 54, 9, 50, 89, 58, 7, 198, 0, 255, 1, 58, 10, 25, 7, 180, 0, 168, 27]
abbrev dktJ4_removeNode_1 : List UInt8 := dkwJ4_removeNode_1 ++ dktJ4_removeNode_2
def dkwJ4_removeNode_0 : List UInt8 := [42, 180, 0, 105, 89, 58, 6, 198, 1, 26, 25, 6, 190, 89, 54, 8, 158, 1, 17, 25, 6, 21, 8, 4]
abbrev dktJ4_removeNode_0 : List UInt8 := dkwJ4_removeNode_0 ++ dktJ4_removeNode_1
theorem dksJ4_removeNode_0 : cJ4_removeNode.data.toList.drop 0 = dktJ4_removeNode_0 := by decide +kernel
theorem dksJ4_removeNode_1 : cJ4_removeNode.data.toList.drop 24 = dktJ4_removeNode_1 := dk_seg dksJ4_removeNode_0 24 rfl rfl
theorem dksJ4_removeNode_2 : cJ4_removeNode.data.toList.drop 46 = dktJ4_removeNode_2 := dk_seg dksJ4_removeNode_1 22 rfl rfl
theorem dksJ4_removeNode_3 : cJ4_removeNode.data.toList.drop 68 = dktJ4_removeNode_3 := dk_seg dksJ4_removeNode_2 22 rfl rfl
theorem dksJ4_removeNode_4 : cJ4_removeNode.data.toList.drop 92 = dktJ4_removeNode_4 := dk_seg dksJ4_removeNode_3 24 rfl rfl
theorem dksJ4_removeNode_5 : cJ4_removeNode.data.toList.drop 115 = dktJ4_removeNode_5 := dk_seg dksJ4_removeNode_4 23 rfl rfl
theorem dksJ4_removeNode_6 : cJ4_removeNode.data.toList.drop 137 = dktJ4_removeNode_6 := dk_seg dksJ4_removeNode_5 22 rfl rfl
theorem dksJ4_removeNode_7 : cJ4_removeNode.data.toList.drop 160 = dktJ4_removeNode_7 := dk_seg dksJ4_removeNode_6 23 rfl rfl
theorem dksJ4_removeNode_8 : cJ4_removeNode.data.toList.drop 183 = dktJ4_removeNode_8 := dk_seg dksJ4_removeNode_7 23 rfl rfl
theorem dksJ4_removeNode_9 : cJ4_removeNode.data.toList.drop 206 = dktJ4_removeNode_9 := dk_seg dksJ4_removeNode_8 23 rfl rfl
theorem dksJ4_removeNode_10 : cJ4_removeNode.data.toList.drop 230 = dktJ4_removeNode_10 := dk_seg dksJ4_removeNode_9 24 rfl rfl
theorem dksJ4_removeNode_11 : cJ4_removeNode.data.toList.drop 254 = dktJ4_removeNode_11 := dk_seg dksJ4_removeNode_10 24 rfl rfl
theorem dksJ4_removeNode_12 : cJ4_removeNode.data.toList.drop 277 = dktJ4_removeNode_12 := dk_seg dksJ4_removeNode_11 23 rfl rfl
theorem dJ4_removeNode_0 : decode cJ4_removeNode 0 = .ok (.aload_n 0, 1) := dk_42 (dk_at dksJ4_removeNode_0 0 rfl rfl)
theorem dJ4_removeNode_1 : decode cJ4_removeNode 1 = .ok (.getfield 105, 3) := dk_180 0 105 (dk_at dksJ4_removeNode_0 1 rfl rfl)
theorem dJ4_removeNode_4 : decode cJ4_removeNode 4 = .ok (.dup, 1) := dk_89 (dk_at dksJ4_removeNode_0 4 rfl rfl)
theorem dJ4_removeNode_5 : decode cJ4_removeNode 5 = .ok (.astore 6, 2) := dk_58 6 (dk_at dksJ4_removeNode_0 5 rfl rfl)
theorem dJ4_removeNode_7 : decode cJ4_removeNode 7 = .ok (.ifnull 282, 3) := dk_198 1 26 (dk_at dksJ4_removeNode_0 7 rfl rfl)
theorem dJ4_removeNode_10 : decode cJ4_removeNode 10 = .ok (.aload 6, 2) := dk_25 6 (dk_at dksJ4_removeNode_0 10 rfl rfl)
theorem dJ4_removeNode_12 : decode cJ4_removeNode 12 = .ok (.arraylength, 1) := dk_190 (dk_at dksJ4_removeNode_0 12 rfl rfl)
theorem dJ4_removeNode_13 : decode cJ4_removeNode 13 = .ok (.dup, 1) := dk_89 (dk_at dksJ4_removeNode_0 13 rfl rfl)
theorem dJ4_removeNode_14 : decode cJ4_removeNode 14 = .ok (.istore 8, 2) := dk_54 8 (dk_at dksJ4_removeNode_0 14 rfl rfl)
theorem dJ4_removeNode_16 : decode cJ4_removeNode 16 = .ok (.ifCond .le 273, 3) := dk_158 1 17 (dk_at dksJ4_removeNode_0 16 rfl rfl)
theorem dJ4_removeNode_19 : decode cJ4_removeNode 19 = .ok (.aload 6, 2) := dk_25 6 (dk_at dksJ4_removeNode_0 19 rfl rfl)
theorem dJ4_removeNode_21 : decode cJ4_removeNode 21 = .ok (.iload 8, 2) := dk_21 8 (dk_at dksJ4_removeNode_0 21 rfl rfl)
theorem dJ4_removeNode_23 : decode cJ4_removeNode 23 = .ok (.iconst 1, 1) := dk_4 (dk_at dksJ4_removeNode_0 23 rfl rfl)
theorem dJ4_removeNode_24 : decode cJ4_removeNode 24 = .ok (.isub, 1) := dk_100 (dk_at dksJ4_removeNode_1 0 rfl rfl)
theorem dJ4_removeNode_25 : decode cJ4_removeNode 25 = .ok (.iload_n 1, 1) := dk_27 (dk_at dksJ4_removeNode_1 1 rfl rfl)
theorem dJ4_removeNode_26 : decode cJ4_removeNode 26 = .ok (.iand, 1) := dk_126 (dk_at dksJ4_removeNode_1 2 rfl rfl)
theorem dJ4_removeNode_27 : decode cJ4_removeNode 27 = .ok (.dup, 1) := dk_89 (dk_at dksJ4_removeNode_1 3 rfl rfl)
theorem dJ4_removeNode_28 : decode cJ4_removeNode 28 = .ok (.istore 9, 2) := dk_54 9 (dk_at dksJ4_removeNode_1 4 rfl rfl)
theorem dJ4_removeNode_30 : decode cJ4_removeNode 30 = .ok (.aaload, 1) := dk_50 (dk_at dksJ4_removeNode_1 6 rfl rfl)
theorem dJ4_removeNode_31 : decode cJ4_removeNode 31 = .ok (.dup, 1) := dk_89 (dk_at dksJ4_removeNode_1 7 rfl rfl)
theorem dJ4_removeNode_32 : decode cJ4_removeNode 32 = .ok (.astore 7, 2) := dk_58 7 (dk_at dksJ4_removeNode_1 8 rfl rfl)
theorem dJ4_removeNode_34 : decode cJ4_removeNode 34 = .ok (.ifnull 255, 3) := dk_198 0 255 (dk_at dksJ4_removeNode_1 10 rfl rfl)
theorem dJ4_removeNode_37 : decode cJ4_removeNode 37 = .ok (.aconst_null, 1) := dk_1 (dk_at dksJ4_removeNode_1 13 rfl rfl)
theorem dJ4_removeNode_38 : decode cJ4_removeNode 38 = .ok (.astore 10, 2) := dk_58 10 (dk_at dksJ4_removeNode_1 14 rfl rfl)
theorem dJ4_removeNode_40 : decode cJ4_removeNode 40 = .ok (.aload 7, 2) := dk_25 7 (dk_at dksJ4_removeNode_1 16 rfl rfl)
theorem dJ4_removeNode_42 : decode cJ4_removeNode 42 = .ok (.getfield 168, 3) := dk_180 0 168 (dk_at dksJ4_removeNode_1 18 rfl rfl)
theorem dJ4_removeNode_45 : decode cJ4_removeNode 45 = .ok (.iload_n 1, 1) := dk_27 (dk_at dksJ4_removeNode_1 21 rfl rfl)
theorem dJ4_removeNode_46 : decode cJ4_removeNode 46 = .ok (.if_icmp .ne 35, 3) := dk_160 0 35 (dk_at dksJ4_removeNode_2 0 rfl rfl)
theorem dJ4_removeNode_49 : decode cJ4_removeNode 49 = .ok (.aload 7, 2) := dk_25 7 (dk_at dksJ4_removeNode_2 3 rfl rfl)
theorem dJ4_removeNode_51 : decode cJ4_removeNode 51 = .ok (.getfield 170, 3) := dk_180 0 170 (dk_at dksJ4_removeNode_2 5 rfl rfl)
theorem dJ4_removeNode_54 : decode cJ4_removeNode 54 = .ok (.dup, 1) := dk_89 (dk_at dksJ4_removeNode_2 8 rfl rfl)
theorem dJ4_removeNode_55 : decode cJ4_removeNode 55 = .ok (.astore 12, 2) := dk_58 12 (dk_at dksJ4_removeNode_2 9 rfl rfl)
theorem dJ4_removeNode_57 : decode cJ4_removeNode 57 = .ok (.aload_n 2, 1) := dk_44 (dk_at dksJ4_removeNode_2 11 rfl rfl)
theorem dJ4_removeNode_58 : decode cJ4_removeNode 58 = .ok (.if_acmp .eq 16, 3) := dk_165 0 16 (dk_at dksJ4_removeNode_2 12 rfl rfl)
theorem dJ4_removeNode_61 : decode cJ4_removeNode 61 = .ok (.aload_n 2, 1) := dk_44 (dk_at dksJ4_removeNode_2 15 rfl rfl)
theorem dJ4_removeNode_62 : decode cJ4_removeNode 62 = .ok (.ifnull 19, 3) := dk_198 0 19 (dk_at dksJ4_removeNode_2 16 rfl rfl)
theorem dJ4_removeNode_65 : decode cJ4_removeNode 65 = .ok (.aload_n 2, 1) := dk_44 (dk_at dksJ4_removeNode_2 19 rfl rfl)
theorem dJ4_removeNode_66 : decode cJ4_removeNode 66 = .ok (.aload 12, 2) := dk_25 12 (dk_at dksJ4_removeNode_2 20 rfl rfl)
theorem dJ4_removeNode_68 : decode cJ4_removeNode 68 = .ok (.invokevirtual 173, 3) := dk_182 0 173 (dk_at dksJ4_removeNode_3 0 rfl rfl)
theorem dJ4_removeNode_71 : decode cJ4_removeNode 71 = .ok (.ifCond .eq 10, 3) := dk_153 0 10 (dk_at dksJ4_removeNode_3 3 rfl rfl)
theorem dJ4_removeNode_74 : decode cJ4_removeNode 74 = .ok (.aload 7, 2) := dk_25 7 (dk_at dksJ4_removeNode_3 6 rfl rfl)
theorem dJ4_removeNode_76 : decode cJ4_removeNode 76 = .ok (.astore 10, 2) := dk_58 10 (dk_at dksJ4_removeNode_3 8 rfl rfl)
theorem dJ4_removeNode_78 : decode cJ4_removeNode 78 = .ok (.goto 93, 3) := dk_167 0 93 (dk_at dksJ4_removeNode_3 10 rfl rfl)
theorem dJ4_removeNode_81 : decode cJ4_removeNode 81 = .ok (.aload 7, 2) := dk_25 7 (dk_at dksJ4_removeNode_3 13 rfl rfl)
theorem dJ4_removeNode_83 : decode cJ4_removeNode 83 = .ok (.getfield 177, 3) := dk_180 0 177 (dk_at dksJ4_removeNode_3 15 rfl rfl)
theorem dJ4_removeNode_86 : decode cJ4_removeNode 86 = .ok (.dup, 1) := dk_89 (dk_at dksJ4_removeNode_3 18 rfl rfl)
theorem dJ4_removeNode_87 : decode cJ4_removeNode 87 = .ok (.astore 11, 2) := dk_58 11 (dk_at dksJ4_removeNode_3 19 rfl rfl)
theorem dJ4_removeNode_89 : decode cJ4_removeNode 89 = .ok (.ifnull 82, 3) := dk_198 0 82 (dk_at dksJ4_removeNode_3 21 rfl rfl)
theorem dJ4_removeNode_92 : decode cJ4_removeNode 92 = .ok (.aload 7, 2) := dk_25 7 (dk_at dksJ4_removeNode_4 0 rfl rfl)
theorem dJ4_removeNode_94 : decode cJ4_removeNode 94 = .ok (.instanceof 180, 3) := dk_193 0 180 (dk_at dksJ4_removeNode_4 2 rfl rfl)
theorem dJ4_removeNode_97 : decode cJ4_removeNode 97 = .ok (.ifCond .eq 18, 3) := dk_153 0 18 (dk_at dksJ4_removeNode_4 5 rfl rfl)
theorem dJ4_removeNode_100 : decode cJ4_removeNode 100 = .ok (.aload 7, 2) := dk_25 7 (dk_at dksJ4_removeNode_4 8 rfl rfl)
theorem dJ4_removeNode_102 : decode cJ4_removeNode 102 = .ok (.checkcast 180, 3) := dk_192 0 180 (dk_at dksJ4_removeNode_4 10 rfl rfl)
theorem dJ4_removeNode_105 : decode cJ4_removeNode 105 = .ok (.iload_n 1, 1) := dk_27 (dk_at dksJ4_removeNode_4 13 rfl rfl)
theorem dJ4_removeNode_106 : decode cJ4_removeNode 106 = .ok (.aload_n 2, 1) := dk_44 (dk_at dksJ4_removeNode_4 14 rfl rfl)
theorem dJ4_removeNode_107 : decode cJ4_removeNode 107 = .ok (.invokevirtual 182, 3) := dk_182 0 182 (dk_at dksJ4_removeNode_4 15 rfl rfl)
theorem dJ4_removeNode_110 : decode cJ4_removeNode 110 = .ok (.astore 10, 2) := dk_58 10 (dk_at dksJ4_removeNode_4 18 rfl rfl)
theorem dJ4_removeNode_112 : decode cJ4_removeNode 112 = .ok (.goto 59, 3) := dk_167 0 59 (dk_at dksJ4_removeNode_4 20 rfl rfl)
theorem dJ4_removeNode_115 : decode cJ4_removeNode 115 = .ok (.aload 11, 2) := dk_25 11 (dk_at dksJ4_removeNode_5 0 rfl rfl)
theorem dJ4_removeNode_117 : decode cJ4_removeNode 117 = .ok (.getfield 168, 3) := dk_180 0 168 (dk_at dksJ4_removeNode_5 2 rfl rfl)
theorem dJ4_removeNode_120 : decode cJ4_removeNode 120 = .ok (.iload_n 1, 1) := dk_27 (dk_at dksJ4_removeNode_5 5 rfl rfl)
theorem dJ4_removeNode_121 : decode cJ4_removeNode 121 = .ok (.if_icmp .ne 35, 3) := dk_160 0 35 (dk_at dksJ4_removeNode_5 6 rfl rfl)
theorem dJ4_removeNode_124 : decode cJ4_removeNode 124 = .ok (.aload 11, 2) := dk_25 11 (dk_at dksJ4_removeNode_5 9 rfl rfl)
theorem dJ4_removeNode_126 : decode cJ4_removeNode 126 = .ok (.getfield 170, 3) := dk_180 0 170 (dk_at dksJ4_removeNode_5 11 rfl rfl)
theorem dJ4_removeNode_129 : decode cJ4_removeNode 129 = .ok (.dup, 1) := dk_89 (dk_at dksJ4_removeNode_5 14 rfl rfl)
theorem dJ4_removeNode_130 : decode cJ4_removeNode 130 = .ok (.astore 12, 2) := dk_58 12 (dk_at dksJ4_removeNode_5 15 rfl rfl)
theorem dJ4_removeNode_132 : decode cJ4_removeNode 132 = .ok (.aload_n 2, 1) := dk_44 (dk_at dksJ4_removeNode_5 17 rfl rfl)
theorem dJ4_removeNode_133 : decode cJ4_removeNode 133 = .ok (.if_acmp .eq 16, 3) := dk_165 0 16 (dk_at dksJ4_removeNode_5 18 rfl rfl)
theorem dJ4_removeNode_136 : decode cJ4_removeNode 136 = .ok (.aload_n 2, 1) := dk_44 (dk_at dksJ4_removeNode_5 21 rfl rfl)
theorem dJ4_removeNode_137 : decode cJ4_removeNode 137 = .ok (.ifnull 19, 3) := dk_198 0 19 (dk_at dksJ4_removeNode_6 0 rfl rfl)
theorem dJ4_removeNode_140 : decode cJ4_removeNode 140 = .ok (.aload_n 2, 1) := dk_44 (dk_at dksJ4_removeNode_6 3 rfl rfl)
theorem dJ4_removeNode_141 : decode cJ4_removeNode 141 = .ok (.aload 12, 2) := dk_25 12 (dk_at dksJ4_removeNode_6 4 rfl rfl)
theorem dJ4_removeNode_143 : decode cJ4_removeNode 143 = .ok (.invokevirtual 173, 3) := dk_182 0 173 (dk_at dksJ4_removeNode_6 6 rfl rfl)
theorem dJ4_removeNode_146 : decode cJ4_removeNode 146 = .ok (.ifCond .eq 10, 3) := dk_153 0 10 (dk_at dksJ4_removeNode_6 9 rfl rfl)
theorem dJ4_removeNode_149 : decode cJ4_removeNode 149 = .ok (.aload 11, 2) := dk_25 11 (dk_at dksJ4_removeNode_6 12 rfl rfl)
theorem dJ4_removeNode_151 : decode cJ4_removeNode 151 = .ok (.astore 10, 2) := dk_58 10 (dk_at dksJ4_removeNode_6 14 rfl rfl)
theorem dJ4_removeNode_153 : decode cJ4_removeNode 153 = .ok (.goto 18, 3) := dk_167 0 18 (dk_at dksJ4_removeNode_6 16 rfl rfl)
theorem dJ4_removeNode_156 : decode cJ4_removeNode 156 = .ok (.aload 11, 2) := dk_25 11 (dk_at dksJ4_removeNode_6 19 rfl rfl)
theorem dJ4_removeNode_158 : decode cJ4_removeNode 158 = .ok (.astore 7, 2) := dk_58 7 (dk_at dksJ4_removeNode_6 21 rfl rfl)
theorem dJ4_removeNode_160 : decode cJ4_removeNode 160 = .ok (.aload 11, 2) := dk_25 11 (dk_at dksJ4_removeNode_7 0 rfl rfl)
theorem dJ4_removeNode_162 : decode cJ4_removeNode 162 = .ok (.getfield 177, 3) := dk_180 0 177 (dk_at dksJ4_removeNode_7 2 rfl rfl)
theorem dJ4_removeNode_165 : decode cJ4_removeNode 165 = .ok (.dup, 1) := dk_89 (dk_at dksJ4_removeNode_7 5 rfl rfl)
theorem dJ4_removeNode_166 : decode cJ4_removeNode 166 = .ok (.astore 11, 2) := dk_58 11 (dk_at dksJ4_removeNode_7 6 rfl rfl)
theorem dJ4_removeNode_168 : decode cJ4_removeNode 168 = .ok (.ifnonnull (-53), 3) := dk_199 255 203 (dk_at dksJ4_removeNode_7 8 rfl rfl)
theorem dJ4_removeNode_171 : decode cJ4_removeNode 171 = .ok (.aload 10, 2) := dk_25 10 (dk_at dksJ4_removeNode_7 11 rfl rfl)
theorem dJ4_removeNode_173 : decode cJ4_removeNode 173 = .ok (.ifnull 116, 3) := dk_198 0 116 (dk_at dksJ4_removeNode_7 13 rfl rfl)
theorem dJ4_removeNode_176 : decode cJ4_removeNode 176 = .ok (.iload 4, 2) := dk_21 4 (dk_at dksJ4_removeNode_7 16 rfl rfl)
theorem dJ4_removeNode_178 : decode cJ4_removeNode 178 = .ok (.ifCond .eq 28, 3) := dk_153 0 28 (dk_at dksJ4_removeNode_7 18 rfl rfl)
theorem dJ4_removeNode_181 : decode cJ4_removeNode 181 = .ok (.aload 10, 2) := dk_25 10 (dk_at dksJ4_removeNode_7 21 rfl rfl)
theorem dJ4_removeNode_183 : decode cJ4_removeNode 183 = .ok (.getfield 162, 3) := dk_180 0 162 (dk_at dksJ4_removeNode_8 0 rfl rfl)
theorem dJ4_removeNode_186 : decode cJ4_removeNode 186 = .ok (.dup, 1) := dk_89 (dk_at dksJ4_removeNode_8 3 rfl rfl)
theorem dJ4_removeNode_187 : decode cJ4_removeNode 187 = .ok (.astore 13, 2) := dk_58 13 (dk_at dksJ4_removeNode_8 4 rfl rfl)
theorem dJ4_removeNode_189 : decode cJ4_removeNode 189 = .ok (.aload_n 3, 1) := dk_45 (dk_at dksJ4_removeNode_8 6 rfl rfl)
theorem dJ4_removeNode_190 : decode cJ4_removeNode 190 = .ok (.if_acmp .eq 16, 3) := dk_165 0 16 (dk_at dksJ4_removeNode_8 7 rfl rfl)
theorem dJ4_removeNode_193 : decode cJ4_removeNode 193 = .ok (.aload_n 3, 1) := dk_45 (dk_at dksJ4_removeNode_8 10 rfl rfl)
theorem dJ4_removeNode_194 : decode cJ4_removeNode 194 = .ok (.ifnull 95, 3) := dk_198 0 95 (dk_at dksJ4_removeNode_8 11 rfl rfl)
theorem dJ4_removeNode_197 : decode cJ4_removeNode 197 = .ok (.aload_n 3, 1) := dk_45 (dk_at dksJ4_removeNode_8 14 rfl rfl)
theorem dJ4_removeNode_198 : decode cJ4_removeNode 198 = .ok (.aload 13, 2) := dk_25 13 (dk_at dksJ4_removeNode_8 15 rfl rfl)
theorem dJ4_removeNode_200 : decode cJ4_removeNode 200 = .ok (.invokevirtual 173, 3) := dk_182 0 173 (dk_at dksJ4_removeNode_8 17 rfl rfl)
theorem dJ4_removeNode_203 : decode cJ4_removeNode 203 = .ok (.ifCond .eq 86, 3) := dk_153 0 86 (dk_at dksJ4_removeNode_8 20 rfl rfl)
theorem dJ4_removeNode_206 : decode cJ4_removeNode 206 = .ok (.aload 10, 2) := dk_25 10 (dk_at dksJ4_removeNode_9 0 rfl rfl)
theorem dJ4_removeNode_208 : decode cJ4_removeNode 208 = .ok (.instanceof 180, 3) := dk_193 0 180 (dk_at dksJ4_removeNode_9 2 rfl rfl)
theorem dJ4_removeNode_211 : decode cJ4_removeNode 211 = .ok (.ifCond .eq 19, 3) := dk_153 0 19 (dk_at dksJ4_removeNode_9 5 rfl rfl)
theorem dJ4_removeNode_214 : decode cJ4_removeNode 214 = .ok (.aload 10, 2) := dk_25 10 (dk_at dksJ4_removeNode_9 8 rfl rfl)
theorem dJ4_removeNode_216 : decode cJ4_removeNode 216 = .ok (.checkcast 180, 3) := dk_192 0 180 (dk_at dksJ4_removeNode_9 10 rfl rfl)
theorem dJ4_removeNode_219 : decode cJ4_removeNode 219 = .ok (.aload_n 0, 1) := dk_42 (dk_at dksJ4_removeNode_9 13 rfl rfl)
theorem dJ4_removeNode_220 : decode cJ4_removeNode 220 = .ok (.aload 6, 2) := dk_25 6 (dk_at dksJ4_removeNode_9 14 rfl rfl)
theorem dJ4_removeNode_222 : decode cJ4_removeNode 222 = .ok (.iload 5, 2) := dk_21 5 (dk_at dksJ4_removeNode_9 16 rfl rfl)
theorem dJ4_removeNode_224 : decode cJ4_removeNode 224 = .ok (.invokevirtual 232, 3) := dk_182 0 232 (dk_at dksJ4_removeNode_9 18 rfl rfl)
theorem dJ4_removeNode_227 : decode cJ4_removeNode 227 = .ok (.goto 33, 3) := dk_167 0 33 (dk_at dksJ4_removeNode_9 21 rfl rfl)
theorem dJ4_removeNode_230 : decode cJ4_removeNode 230 = .ok (.aload 10, 2) := dk_25 10 (dk_at dksJ4_removeNode_10 0 rfl rfl)
theorem dJ4_removeNode_232 : decode cJ4_removeNode 232 = .ok (.aload 7, 2) := dk_25 7 (dk_at dksJ4_removeNode_10 2 rfl rfl)
theorem dJ4_removeNode_234 : decode cJ4_removeNode 234 = .ok (.if_acmp .ne 16, 3) := dk_166 0 16 (dk_at dksJ4_removeNode_10 4 rfl rfl)
theorem dJ4_removeNode_237 : decode cJ4_removeNode 237 = .ok (.aload 6, 2) := dk_25 6 (dk_at dksJ4_removeNode_10 7 rfl rfl)
theorem dJ4_removeNode_239 : decode cJ4_removeNode 239 = .ok (.iload 9, 2) := dk_21 9 (dk_at dksJ4_removeNode_10 9 rfl rfl)
theorem dJ4_removeNode_241 : decode cJ4_removeNode 241 = .ok (.aload 10, 2) := dk_25 10 (dk_at dksJ4_removeNode_10 11 rfl rfl)
theorem dJ4_removeNode_243 : decode cJ4_removeNode 243 = .ok (.getfield 177, 3) := dk_180 0 177 (dk_at dksJ4_removeNode_10 13 rfl rfl)
theorem dJ4_removeNode_246 : decode cJ4_removeNode 246 = .ok (.aastore, 1) := dk_83 (dk_at dksJ4_removeNode_10 16 rfl rfl)
theorem dJ4_removeNode_247 : decode cJ4_removeNode 247 = .ok (.goto 13, 3) := dk_167 0 13 (dk_at dksJ4_removeNode_10 17 rfl rfl)
theorem dJ4_removeNode_250 : decode cJ4_removeNode 250 = .ok (.aload 7, 2) := dk_25 7 (dk_at dksJ4_removeNode_10 20 rfl rfl)
theorem dJ4_removeNode_252 : decode cJ4_removeNode 252 = .ok (.aload 10, 2) := dk_25 10 (dk_at dksJ4_removeNode_10 22 rfl rfl)
theorem dJ4_removeNode_254 : decode cJ4_removeNode 254 = .ok (.getfield 177, 3) := dk_180 0 177 (dk_at dksJ4_removeNode_11 0 rfl rfl)
theorem dJ4_removeNode_257 : decode cJ4_removeNode 257 = .ok (.putfield 177, 3) := dk_181 0 177 (dk_at dksJ4_removeNode_11 3 rfl rfl)
theorem dJ4_removeNode_260 : decode cJ4_removeNode 260 = .ok (.aload_n 0, 1) := dk_42 (dk_at dksJ4_removeNode_11 6 rfl rfl)
theorem dJ4_removeNode_261 : decode cJ4_removeNode 261 = .ok (.dup, 1) := dk_89 (dk_at dksJ4_removeNode_11 7 rfl rfl)
theorem dJ4_removeNode_262 : decode cJ4_removeNode 262 = .ok (.getfield 202, 3) := dk_180 0 202 (dk_at dksJ4_removeNode_11 8 rfl rfl)
theorem dJ4_removeNode_265 : decode cJ4_removeNode 265 = .ok (.iconst 1, 1) := dk_4 (dk_at dksJ4_removeNode_11 11 rfl rfl)
theorem dJ4_removeNode_266 : decode cJ4_removeNode 266 = .ok (.iadd, 1) := dk_96 (dk_at dksJ4_removeNode_11 12 rfl rfl)
theorem dJ4_removeNode_267 : decode cJ4_removeNode 267 = .ok (.putfield 202, 3) := dk_181 0 202 (dk_at dksJ4_removeNode_11 13 rfl rfl)
theorem dJ4_removeNode_270 : decode cJ4_removeNode 270 = .ok (.aload_n 0, 1) := dk_42 (dk_at dksJ4_removeNode_11 16 rfl rfl)
theorem dJ4_removeNode_271 : decode cJ4_removeNode 271 = .ok (.dup, 1) := dk_89 (dk_at dksJ4_removeNode_11 17 rfl rfl)
theorem dJ4_removeNode_272 : decode cJ4_removeNode 272 = .ok (.getfield 156, 3) := dk_180 0 156 (dk_at dksJ4_removeNode_11 18 rfl rfl)
theorem dJ4_removeNode_275 : decode cJ4_removeNode 275 = .ok (.iconst 1, 1) := dk_4 (dk_at dksJ4_removeNode_11 21 rfl rfl)
theorem dJ4_removeNode_276 : decode cJ4_removeNode 276 = .ok (.isub, 1) := dk_100 (dk_at dksJ4_removeNode_11 22 rfl rfl)
theorem dJ4_removeNode_277 : decode cJ4_removeNode 277 = .ok (.putfield 156, 3) := dk_181 0 156 (dk_at dksJ4_removeNode_12 0 rfl rfl)
theorem dJ4_removeNode_280 : decode cJ4_removeNode 280 = .ok (.aload_n 0, 1) := dk_42 (dk_at dksJ4_removeNode_12 3 rfl rfl)
theorem dJ4_removeNode_281 : decode cJ4_removeNode 281 = .ok (.aload 10, 2) := dk_25 10 (dk_at dksJ4_removeNode_12 4 rfl rfl)
theorem dJ4_removeNode_283 : decode cJ4_removeNode 283 = .ok (.invokevirtual 236, 3) := dk_182 0 236 (dk_at dksJ4_removeNode_12 6 rfl rfl)
theorem dJ4_removeNode_286 : decode cJ4_removeNode 286 = .ok (.aload 10, 2) := dk_25 10 (dk_at dksJ4_removeNode_12 9 rfl rfl)
theorem dJ4_removeNode_288 : decode cJ4_removeNode 288 = .ok (.areturn, 1) := dk_176 (dk_at dksJ4_removeNode_12 11 rfl rfl)
theorem dJ4_removeNode_289 : decode cJ4_removeNode 289 = .ok (.aconst_null, 1) := dk_1 (dk_at dksJ4_removeNode_12 12 rfl rfl)
theorem dJ4_removeNode_290 : decode cJ4_removeNode 290 = .ok (.areturn, 1) := dk_176 (dk_at dksJ4_removeNode_12 13 rfl rfl)
abbrev cJ4_afterNodeRemoval : ByteArray := prog_65_method_53_code
def yJ4_afterNodeRemoval : MethodName := ⟨RJ4, "afterNodeRemoval", "(Ljava/util/HashMap$Node;)V"⟩
theorem dJ4_afterNodeRemoval_0 : decode cJ4_afterNodeRemoval 0 = .ok (.return_, 1) := by decide +kernel
abbrev cJ4_size : ByteArray := prog_65_method_10_code
def yJ4_size : MethodName := ⟨RJ4, "size", "()I"⟩
theorem dJ4_size_0 : decode cJ4_size 0 = .ok (.aload_n 0, 1) := by decide +kernel
theorem dJ4_size_1 : decode cJ4_size 1 = .ok (.getfield 156, 3) := by decide +kernel
theorem dJ4_size_4 : decode cJ4_size 4 = .ok (.ireturn, 1) := by decide +kernel
abbrev cJ4_entrySet : ByteArray := prog_65_method_29_code
def yJ4_entrySet : MethodName := ⟨RJ4, "entrySet", "()Ljava/util/Set;"⟩
def dkwJ4_entrySet_1 : List UInt8 := [167, 0, 4, 43, 176]
abbrev dktJ4_entrySet_1 : List UInt8 := dkwJ4_entrySet_1 ++ []
def dkwJ4_entrySet_0 : List UInt8 := [42, 180, 1, 10, 89, 76, 199, 0, 19, 42, 187, 1, 12, 89, 42, 183, 1, 14, 90, 181, 1, 10]
abbrev dktJ4_entrySet_0 : List UInt8 := dkwJ4_entrySet_0 ++ dktJ4_entrySet_1
theorem dksJ4_entrySet_0 : cJ4_entrySet.data.toList.drop 0 = dktJ4_entrySet_0 := by decide +kernel
theorem dksJ4_entrySet_1 : cJ4_entrySet.data.toList.drop 22 = dktJ4_entrySet_1 := dk_seg dksJ4_entrySet_0 22 rfl rfl
theorem dJ4_entrySet_0 : decode cJ4_entrySet 0 = .ok (.aload_n 0, 1) := dk_42 (dk_at dksJ4_entrySet_0 0 rfl rfl)
theorem dJ4_entrySet_1 : decode cJ4_entrySet 1 = .ok (.getfield 266, 3) := dk_180 1 10 (dk_at dksJ4_entrySet_0 1 rfl rfl)
theorem dJ4_entrySet_4 : decode cJ4_entrySet 4 = .ok (.dup, 1) := dk_89 (dk_at dksJ4_entrySet_0 4 rfl rfl)
theorem dJ4_entrySet_5 : decode cJ4_entrySet 5 = .ok (.astore_n 1, 1) := dk_76 (dk_at dksJ4_entrySet_0 5 rfl rfl)
theorem dJ4_entrySet_6 : decode cJ4_entrySet 6 = .ok (.ifnonnull 19, 3) := dk_199 0 19 (dk_at dksJ4_entrySet_0 6 rfl rfl)
theorem dJ4_entrySet_9 : decode cJ4_entrySet 9 = .ok (.aload_n 0, 1) := dk_42 (dk_at dksJ4_entrySet_0 9 rfl rfl)
theorem dJ4_entrySet_10 : decode cJ4_entrySet 10 = .ok (.new 268, 3) := dk_187 1 12 (dk_at dksJ4_entrySet_0 10 rfl rfl)
theorem dJ4_entrySet_13 : decode cJ4_entrySet 13 = .ok (.dup, 1) := dk_89 (dk_at dksJ4_entrySet_0 13 rfl rfl)
theorem dJ4_entrySet_14 : decode cJ4_entrySet 14 = .ok (.aload_n 0, 1) := dk_42 (dk_at dksJ4_entrySet_0 14 rfl rfl)
theorem dJ4_entrySet_15 : decode cJ4_entrySet 15 = .ok (.invokespecial 270, 3) := dk_183 1 14 (dk_at dksJ4_entrySet_0 15 rfl rfl)
theorem dJ4_entrySet_18 : decode cJ4_entrySet 18 = .ok (.dup_x1, 1) := dk_90 (dk_at dksJ4_entrySet_0 18 rfl rfl)
theorem dJ4_entrySet_19 : decode cJ4_entrySet 19 = .ok (.putfield 266, 3) := dk_181 1 10 (dk_at dksJ4_entrySet_0 19 rfl rfl)
theorem dJ4_entrySet_22 : decode cJ4_entrySet 22 = .ok (.goto 4, 3) := dk_167 0 4 (dk_at dksJ4_entrySet_1 0 rfl rfl)
theorem dJ4_entrySet_25 : decode cJ4_entrySet 25 = .ok (.aload_n 1, 1) := dk_43 (dk_at dksJ4_entrySet_1 3 rfl rfl)
theorem dJ4_entrySet_26 : decode cJ4_entrySet 26 = .ok (.areturn, 1) := dk_176 (dk_at dksJ4_entrySet_1 4 rfl rfl)
theorem q83 : (Jvm.Cond.initialized "java/util/HashMap") ∈ lw_all := lw_g (lw_at lw_m1 7 rfl) rfl
theorem q195 : (Jvm.Cond.instantiable "java/util/HashMap" (8 : Nat)) ∈ lw_all := lw_g (lw_at lw_m1 119 rfl) rfl
theorem q197 : (Jvm.Cond.instanceMethod ({ cls := "java/util/HashMap", name := "<init>", desc := "()V" } : Jvm.MethodName)) ∈ lw_all := lw_g (lw_at lw_m1 121 rfl) rfl
theorem q198 : (Jvm.Cond.code ({ cls := "java/util/HashMap", name := "<init>", desc := "()V" } : Jvm.MethodName) prog_65_method_7_code (1 : Nat) (Option.none : Option Jvm.ClassFile.FieldType)) ∈ lw_all := lw_g (lw_at lw_m1 122 rfl) rfl
theorem q199 : (Jvm.Cond.methodLink "java/util/HashMap" (43 : Nat) ({ cls := "java/util/AbstractMap", name := "<init>", desc := "()V" } : Jvm.MethodName)) ∈ lw_all := lw_g (lw_at lw_m1 123 rfl) rfl
theorem q203 : (Jvm.Cond.constantFloat "java/util/HashMap" (92 : Nat) (1061158912 : UInt32)) ∈ lw_all := lw_g (lw_at lw_m1 127 rfl) rfl
theorem q205 : (Jvm.Cond.fieldLink "java/util/HashMap" (105 : Nat) "java/util/HashMap" "table" "[Ljava/util/HashMap$Node;") ∈ lw_all := lw_g (lw_at lw_m1 129 rfl) rfl
theorem q206 : (Jvm.Cond.fieldLink "java/util/HashMap" (266 : Nat) "java/util/HashMap" "entrySet" "Ljava/util/Set;") ∈ lw_all := lw_g (lw_at lw_m1 130 rfl) rfl
theorem q208 : (Jvm.Cond.fieldLink "java/util/HashMap" (156 : Nat) "java/util/HashMap" "size" "I") ∈ lw_all := lw_g (lw_at lw_m1 132 rfl) rfl
theorem q210 : (Jvm.Cond.fieldLink "java/util/HashMap" (202 : Nat) "java/util/HashMap" "modCount" "I") ∈ lw_all := lw_g (lw_at lw_m1 134 rfl) rfl
theorem q211 : (Jvm.Cond.fieldLink "java/util/HashMap" (88 : Nat) "java/util/HashMap" "threshold" "I") ∈ lw_all := lw_g (lw_at lw_m1 135 rfl) rfl
theorem q212 : (Jvm.Cond.fieldLink "java/util/HashMap" (81 : Nat) "java/util/HashMap" "loadFactor" "F") ∈ lw_all := lw_g (lw_at lw_m1 136 rfl) rfl
theorem q215 : (Jvm.Cond.lays "java/util/HashMap" "java/util/HashMap" "table" "[Ljava/util/HashMap$Node;") ∈ lw_all := lw_g (lw_at lw_m1 139 rfl) rfl
theorem q216 : (Jvm.Cond.soleField "java/util/HashMap" "table") ∈ lw_all := lw_g (lw_at lw_m1 140 rfl) rfl
theorem q217 : (Jvm.Cond.lays "java/util/HashMap" "java/util/HashMap" "entrySet" "Ljava/util/Set;") ∈ lw_all := lw_g (lw_at lw_m1 141 rfl) rfl
theorem q218 : (Jvm.Cond.soleField "java/util/HashMap" "entrySet") ∈ lw_all := lw_g (lw_at lw_m1 142 rfl) rfl
theorem q219 : (Jvm.Cond.lays "java/util/HashMap" "java/util/HashMap" "size" "I") ∈ lw_all := lw_g (lw_at lw_m1 143 rfl) rfl
theorem q220 : (Jvm.Cond.soleField "java/util/HashMap" "size") ∈ lw_all := lw_g (lw_at lw_m1 144 rfl) rfl
theorem q221 : (Jvm.Cond.lays "java/util/HashMap" "java/util/HashMap" "modCount" "I") ∈ lw_all := lw_g (lw_at lw_m1 145 rfl) rfl
theorem q222 : (Jvm.Cond.soleField "java/util/HashMap" "modCount") ∈ lw_all := lw_g (lw_at lw_m1 146 rfl) rfl
theorem q223 : (Jvm.Cond.lays "java/util/HashMap" "java/util/HashMap" "threshold" "I") ∈ lw_all := lw_g (lw_at lw_m1 147 rfl) rfl
theorem q224 : (Jvm.Cond.soleField "java/util/HashMap" "threshold") ∈ lw_all := lw_g (lw_at lw_m1 148 rfl) rfl
theorem q225 : (Jvm.Cond.laysFinal "java/util/HashMap" "java/util/HashMap" "loadFactor" "F") ∈ lw_all := lw_g (lw_at lw_m1 149 rfl) rfl
theorem q226 : (Jvm.Cond.soleField "java/util/HashMap" "loadFactor") ∈ lw_all := lw_g (lw_at lw_m1 150 rfl) rfl
theorem q227 : (Jvm.Cond.lays "java/util/HashMap" "java/util/AbstractMap" "keySet" "Ljava/util/Set;") ∈ lw_all := lw_g (lw_at lw_m1 151 rfl) rfl
theorem q229 : (Jvm.Cond.lays "java/util/HashMap" "java/util/AbstractMap" "values" "Ljava/util/Collection;") ∈ lw_all := lw_g (lw_at lw_m1 153 rfl) rfl
theorem q231 : (Jvm.Cond.superclass "java/util/HashMap" "java/util/AbstractMap") ∈ lw_all := lw_g (lw_at lw_m1 155 rfl) rfl
theorem q768 : (Jvm.Cond.selects "java/util/HashMap" ({ cls := "java/lang/Object", name := "getClass", desc := "()Ljava/lang/Class;" } : Jvm.MethodName) ({ cls := "java/lang/Object", name := "getClass", desc := "()Ljava/lang/Class;" } : Jvm.MethodName)) ∈ lw_all := lw_g (lw_at lw_m3 212 rfl) rfl
theorem q1251 : (Jvm.Cond.instanceMethod ({ cls := "java/util/HashMap", name := "get", desc := "(Ljava/lang/Object;)Ljava/lang/Object;" } : Jvm.MethodName)) ∈ lw_all := lw_g (lw_at lw_m5 215 rfl) rfl
theorem q1252 : (Jvm.Cond.selects "java/util/HashMap" ({ cls := "java/util/HashMap", name := "get", desc := "(Ljava/lang/Object;)Ljava/lang/Object;" } : Jvm.MethodName) ({ cls := "java/util/HashMap", name := "get", desc := "(Ljava/lang/Object;)Ljava/lang/Object;" } : Jvm.MethodName)) ∈ lw_all := lw_g (lw_at lw_m5 216 rfl) rfl
theorem q1253 : (Jvm.Cond.code ({ cls := "java/util/HashMap", name := "get", desc := "(Ljava/lang/Object;)Ljava/lang/Object;" } : Jvm.MethodName) prog_65_method_12_code (3 : Nat) (Option.some (Jvm.ClassFile.FieldType.object "java/lang/Object"))) ∈ lw_all := lw_g (lw_at lw_m5 217 rfl) rfl
theorem q1254 : (Jvm.Cond.methodLink "java/util/HashMap" (158 : Nat) ({ cls := "java/util/HashMap", name := "getNode", desc := "(Ljava/lang/Object;)Ljava/util/HashMap$Node;" } : Jvm.MethodName)) ∈ lw_all := lw_g (lw_at lw_m5 218 rfl) rfl
theorem q1255 : (Jvm.Cond.instanceMethod ({ cls := "java/util/HashMap", name := "getNode", desc := "(Ljava/lang/Object;)Ljava/util/HashMap$Node;" } : Jvm.MethodName)) ∈ lw_all := lw_g (lw_at lw_m5 219 rfl) rfl
theorem q1256 : (Jvm.Cond.selects "java/util/HashMap" ({ cls := "java/util/HashMap", name := "getNode", desc := "(Ljava/lang/Object;)Ljava/util/HashMap$Node;" } : Jvm.MethodName) ({ cls := "java/util/HashMap", name := "getNode", desc := "(Ljava/lang/Object;)Ljava/util/HashMap$Node;" } : Jvm.MethodName)) ∈ lw_all := lw_g (lw_at lw_m5 220 rfl) rfl
theorem q1257 : (Jvm.Cond.code ({ cls := "java/util/HashMap", name := "getNode", desc := "(Ljava/lang/Object;)Ljava/util/HashMap$Node;" } : Jvm.MethodName) prog_65_method_13_code (8 : Nat) (Option.some (Jvm.ClassFile.FieldType.object "java/util/HashMap$Node"))) ∈ lw_all := lw_g (lw_at lw_m5 221 rfl) rfl
theorem q1258 : (Jvm.Cond.methodLink "java/util/HashMap" (149 : Nat) ({ cls := "java/util/HashMap", name := "hash", desc := "(Ljava/lang/Object;)I" } : Jvm.MethodName)) ∈ lw_all := lw_g (lw_at lw_m5 222 rfl) rfl
theorem q1259 : (Jvm.Cond.static ({ cls := "java/util/HashMap", name := "hash", desc := "(Ljava/lang/Object;)I" } : Jvm.MethodName)) ∈ lw_all := lw_g (lw_at lw_m5 223 rfl) rfl
theorem q1260 : (Jvm.Cond.code ({ cls := "java/util/HashMap", name := "hash", desc := "(Ljava/lang/Object;)I" } : Jvm.MethodName) prog_65_method_1_code (2 : Nat) (Option.some Jvm.ClassFile.FieldType.int)) ∈ lw_all := lw_g (lw_at lw_m5 224 rfl) rfl
theorem q1262 : (Jvm.Cond.methodLink "java/util/HashMap" (1 : Nat) ({ cls := "java/lang/Object", name := "hashCode", desc := "()I" } : Jvm.MethodName)) ∈ lw_all := lw_g (lw_at lw_m5 226 rfl) rfl
theorem q1363 : (Jvm.Cond.methodLink "java/util/HashMap" (173 : Nat) ({ cls := "java/lang/Object", name := "equals", desc := "(Ljava/lang/Object;)Z" } : Jvm.MethodName)) ∈ lw_all := lw_g (lw_at lw_m6 87 rfl) rfl
theorem q1408 : (Jvm.Cond.classLink "java/util/HashMap" (180 : Nat) "java/util/HashMap$TreeNode") ∈ lw_all := lw_g (lw_at lw_m6 132 rfl) rfl
theorem q1409 : (Jvm.Cond.methodLink "java/util/HashMap" (182 : Nat) ({ cls := "java/util/HashMap$TreeNode", name := "getTreeNode", desc := "(ILjava/lang/Object;)Ljava/util/HashMap$TreeNode;" } : Jvm.MethodName)) ∈ lw_all := lw_g (lw_at lw_m6 133 rfl) rfl
theorem q1423 : (Jvm.Cond.static ({ cls := "java/util/HashMap", name := "comparableClassFor", desc := "(Ljava/lang/Object;)Ljava/lang/Class;" } : Jvm.MethodName)) ∈ lw_all := lw_g (lw_at lw_m6 147 rfl) rfl
theorem q1424 : (Jvm.Cond.code ({ cls := "java/util/HashMap", name := "comparableClassFor", desc := "(Ljava/lang/Object;)Ljava/lang/Class;" } : Jvm.MethodName) prog_65_method_2_code (9 : Nat) (Option.some (Jvm.ClassFile.FieldType.object "java/lang/Class"))) ∈ lw_all := lw_g (lw_at lw_m6 148 rfl) rfl
theorem q1425 : (Jvm.Cond.classLink "java/util/HashMap" (7 : Nat) "java/lang/Comparable") ∈ lw_all := lw_g (lw_at lw_m6 149 rfl) rfl
theorem q1426 : (Jvm.Cond.methodLink "java/util/HashMap" (9 : Nat) ({ cls := "java/lang/Object", name := "getClass", desc := "()Ljava/lang/Class;" } : Jvm.MethodName)) ∈ lw_all := lw_g (lw_at lw_m6 150 rfl) rfl
theorem q1427 : (Jvm.Cond.classLink "java/util/HashMap" (13 : Nat) "java/lang/String") ∈ lw_all := lw_g (lw_at lw_m6 151 rfl) rfl
theorem q1429 : (Jvm.Cond.static ({ cls := "java/util/HashMap", name := "compareComparables", desc := "(Ljava/lang/Class;Ljava/lang/Object;Ljava/lang/Object;)I" } : Jvm.MethodName)) ∈ lw_all := lw_g (lw_at lw_m6 153 rfl) rfl
theorem q1430 : (Jvm.Cond.code ({ cls := "java/util/HashMap", name := "compareComparables", desc := "(Ljava/lang/Class;Ljava/lang/Object;Ljava/lang/Object;)I" } : Jvm.MethodName) prog_65_method_3_code (3 : Nat) (Option.some Jvm.ClassFile.FieldType.int)) ∈ lw_all := lw_g (lw_at lw_m6 154 rfl) rfl
theorem q1431 : (Jvm.Cond.interfaceEntry "java/util/HashMap" (30 : Nat)) ∈ lw_tbl := lw_at lw_m6 155 rfl
theorem q1432 : (Jvm.Cond.methodLink "java/util/HashMap" (30 : Nat) ({ cls := "java/lang/Comparable", name := "compareTo", desc := "(Ljava/lang/Object;)I" } : Jvm.MethodName)) ∈ lw_all := lw_g (lw_at lw_m6 156 rfl) rfl
theorem q1642 : (Jvm.Cond.instanceMethod ({ cls := "java/util/HashMap", name := "put", desc := "(Ljava/lang/Object;Ljava/lang/Object;)Ljava/lang/Object;" } : Jvm.MethodName)) ∈ lw_all := lw_g (lw_at lw_m7 126 rfl) rfl
theorem q1643 : (Jvm.Cond.selects "java/util/HashMap" ({ cls := "java/util/HashMap", name := "put", desc := "(Ljava/lang/Object;Ljava/lang/Object;)Ljava/lang/Object;" } : Jvm.MethodName) ({ cls := "java/util/HashMap", name := "put", desc := "(Ljava/lang/Object;Ljava/lang/Object;)Ljava/lang/Object;" } : Jvm.MethodName)) ∈ lw_all := lw_g (lw_at lw_m7 127 rfl) rfl
theorem q1644 : (Jvm.Cond.code ({ cls := "java/util/HashMap", name := "put", desc := "(Ljava/lang/Object;Ljava/lang/Object;)Ljava/lang/Object;" } : Jvm.MethodName) prog_65_method_15_code (3 : Nat) (Option.some (Jvm.ClassFile.FieldType.object "java/lang/Object"))) ∈ lw_all := lw_g (lw_at lw_m7 128 rfl) rfl
theorem q1645 : (Jvm.Cond.methodLink "java/util/HashMap" (152 : Nat) ({ cls := "java/util/HashMap", name := "putVal", desc := "(ILjava/lang/Object;Ljava/lang/Object;ZZ)Ljava/lang/Object;" } : Jvm.MethodName)) ∈ lw_all := lw_g (lw_at lw_m7 129 rfl) rfl
theorem q1646 : (Jvm.Cond.instanceMethod ({ cls := "java/util/HashMap", name := "putVal", desc := "(ILjava/lang/Object;Ljava/lang/Object;ZZ)Ljava/lang/Object;" } : Jvm.MethodName)) ∈ lw_all := lw_g (lw_at lw_m7 130 rfl) rfl
theorem q1647 : (Jvm.Cond.selects "java/util/HashMap" ({ cls := "java/util/HashMap", name := "putVal", desc := "(ILjava/lang/Object;Ljava/lang/Object;ZZ)Ljava/lang/Object;" } : Jvm.MethodName) ({ cls := "java/util/HashMap", name := "putVal", desc := "(ILjava/lang/Object;Ljava/lang/Object;ZZ)Ljava/lang/Object;" } : Jvm.MethodName)) ∈ lw_all := lw_g (lw_at lw_m7 131 rfl) rfl
theorem q1648 : (Jvm.Cond.code ({ cls := "java/util/HashMap", name := "putVal", desc := "(ILjava/lang/Object;Ljava/lang/Object;ZZ)Ljava/lang/Object;" } : Jvm.MethodName) prog_65_method_16_code (13 : Nat) (Option.some (Jvm.ClassFile.FieldType.object "java/lang/Object"))) ∈ lw_all := lw_g (lw_at lw_m7 132 rfl) rfl
theorem q1649 : (Jvm.Cond.methodLink "java/util/HashMap" (117 : Nat) ({ cls := "java/util/HashMap", name := "resize", desc := "()[Ljava/util/HashMap$Node;" } : Jvm.MethodName)) ∈ lw_all := lw_g (lw_at lw_m7 133 rfl) rfl
theorem q1650 : (Jvm.Cond.instanceMethod ({ cls := "java/util/HashMap", name := "resize", desc := "()[Ljava/util/HashMap$Node;" } : Jvm.MethodName)) ∈ lw_all := lw_g (lw_at lw_m7 134 rfl) rfl
theorem q1651 : (Jvm.Cond.selects "java/util/HashMap" ({ cls := "java/util/HashMap", name := "resize", desc := "()[Ljava/util/HashMap$Node;" } : Jvm.MethodName) ({ cls := "java/util/HashMap", name := "resize", desc := "()[Ljava/util/HashMap$Node;" } : Jvm.MethodName)) ∈ lw_all := lw_g (lw_at lw_m7 135 rfl) rfl
theorem q1652 : (Jvm.Cond.code ({ cls := "java/util/HashMap", name := "resize", desc := "()[Ljava/util/HashMap$Node;" } : Jvm.MethodName) prog_65_method_17_code (14 : Nat) (Option.some (Jvm.ClassFile.FieldType.array (Jvm.ClassFile.FieldType.object "java/util/HashMap$Node")))) ∈ lw_all := lw_g (lw_at lw_m7 136 rfl) rfl
theorem q1653 : (Jvm.Cond.constant "java/util/HashMap" (42 : Nat) (1073741824 : Int32)) ∈ lw_all := lw_g (lw_at lw_m7 137 rfl) rfl
theorem q1654 : (Jvm.Cond.constant "java/util/HashMap" (209 : Nat) (2147483647 : Int32)) ∈ lw_all := lw_g (lw_at lw_m7 138 rfl) rfl
theorem q1655 : (Jvm.Cond.constantFloat "java/util/HashMap" (210 : Nat) (1317011456 : UInt32)) ∈ lw_all := lw_g (lw_at lw_m7 139 rfl) rfl
theorem q1656 : (Jvm.Cond.classLink "java/util/HashMap" (163 : Nat) "java/util/HashMap$Node") ∈ lw_all := lw_g (lw_at lw_m7 140 rfl) rfl
theorem q1658 : (Jvm.Cond.methodLink "java/util/HashMap" (211 : Nat) ({ cls := "java/util/HashMap$TreeNode", name := "split", desc := "(Ljava/util/HashMap;[Ljava/util/HashMap$Node;II)V" } : Jvm.MethodName)) ∈ lw_all := lw_g (lw_at lw_m7 142 rfl) rfl
theorem q1668 : (Jvm.Cond.instanceMethod ({ cls := "java/util/HashMap", name := "replacementNode", desc := "(Ljava/util/HashMap$Node;Ljava/util/HashMap$Node;)Ljava/util/HashMap$Node;" } : Jvm.MethodName)) ∈ lw_all := lw_g (lw_at lw_m7 152 rfl) rfl
theorem q1669 : (Jvm.Cond.selects "java/util/HashMap" ({ cls := "java/util/HashMap", name := "replacementNode", desc := "(Ljava/util/HashMap$Node;Ljava/util/HashMap$Node;)Ljava/util/HashMap$Node;" } : Jvm.MethodName) ({ cls := "java/util/HashMap", name := "replacementNode", desc := "(Ljava/util/HashMap$Node;Ljava/util/HashMap$Node;)Ljava/util/HashMap$Node;" } : Jvm.MethodName)) ∈ lw_all := lw_g (lw_at lw_m7 153 rfl) rfl
theorem q1670 : (Jvm.Cond.code ({ cls := "java/util/HashMap", name := "replacementNode", desc := "(Ljava/util/HashMap$Node;Ljava/util/HashMap$Node;)Ljava/util/HashMap$Node;" } : Jvm.MethodName) prog_65_method_47_code (3 : Nat) (Option.some (Jvm.ClassFile.FieldType.object "java/util/HashMap$Node"))) ∈ lw_all := lw_g (lw_at lw_m7 154 rfl) rfl
theorem q1672 : (Jvm.Cond.methodLink "java/util/HashMap" (375 : Nat) ({ cls := "java/util/HashMap$Node", name := "<init>", desc := "(ILjava/lang/Object;Ljava/lang/Object;Ljava/util/HashMap$Node;)V" } : Jvm.MethodName)) ∈ lw_all := lw_g (lw_at lw_m7 156 rfl) rfl
theorem q1680 : (Jvm.Cond.fieldLink "java/util/HashMap" (168 : Nat) "java/util/HashMap$Node" "hash" "I") ∈ lw_all := lw_g (lw_at lw_m7 164 rfl) rfl
theorem q1685 : (Jvm.Cond.fieldLink "java/util/HashMap" (170 : Nat) "java/util/HashMap$Node" "key" "Ljava/lang/Object;") ∈ lw_all := lw_g (lw_at lw_m7 169 rfl) rfl
theorem q1687 : (Jvm.Cond.fieldLink "java/util/HashMap" (162 : Nat) "java/util/HashMap$Node" "value" "Ljava/lang/Object;") ∈ lw_all := lw_g (lw_at lw_m7 171 rfl) rfl
theorem q1693 : (Jvm.Cond.fieldLink "java/util/HashMap" (177 : Nat) "java/util/HashMap$Node" "next" "Ljava/util/HashMap$Node;") ∈ lw_all := lw_g (lw_at lw_m7 177 rfl) rfl
theorem q1694 : (Jvm.Cond.fieldLink "java/util/HashMap" (223 : Nat) "java/util/HashMap$TreeNode" "next" "Ljava/util/HashMap$Node;") ∈ lw_all := lw_g (lw_at lw_m7 178 rfl) rfl
theorem q1722 : (Jvm.Cond.methodLink "java/util/HashMap" (186 : Nat) ({ cls := "java/util/HashMap", name := "newNode", desc := "(ILjava/lang/Object;Ljava/lang/Object;Ljava/util/HashMap$Node;)Ljava/util/HashMap$Node;" } : Jvm.MethodName)) ∈ lw_all := lw_g (lw_at lw_m7 206 rfl) rfl
theorem q1723 : (Jvm.Cond.instanceMethod ({ cls := "java/util/HashMap", name := "newNode", desc := "(ILjava/lang/Object;Ljava/lang/Object;Ljava/util/HashMap$Node;)Ljava/util/HashMap$Node;" } : Jvm.MethodName)) ∈ lw_all := lw_g (lw_at lw_m7 207 rfl) rfl
theorem q1724 : (Jvm.Cond.selects "java/util/HashMap" ({ cls := "java/util/HashMap", name := "newNode", desc := "(ILjava/lang/Object;Ljava/lang/Object;Ljava/util/HashMap$Node;)Ljava/util/HashMap$Node;" } : Jvm.MethodName) ({ cls := "java/util/HashMap", name := "newNode", desc := "(ILjava/lang/Object;Ljava/lang/Object;Ljava/util/HashMap$Node;)Ljava/util/HashMap$Node;" } : Jvm.MethodName)) ∈ lw_all := lw_g (lw_at lw_m7 208 rfl) rfl
theorem q1725 : (Jvm.Cond.code ({ cls := "java/util/HashMap", name := "newNode", desc := "(ILjava/lang/Object;Ljava/lang/Object;Ljava/util/HashMap$Node;)Ljava/util/HashMap$Node;" } : Jvm.MethodName) prog_65_method_46_code (5 : Nat) (Option.some (Jvm.ClassFile.FieldType.object "java/util/HashMap$Node"))) ∈ lw_all := lw_g (lw_at lw_m7 209 rfl) rfl
theorem q1726 : (Jvm.Cond.methodLink "java/util/HashMap" (190 : Nat) ({ cls := "java/util/HashMap$TreeNode", name := "putTreeVal", desc := "(Ljava/util/HashMap;[Ljava/util/HashMap$Node;ILjava/lang/Object;Ljava/lang/Object;)Ljava/util/HashMap$TreeNode;" } : Jvm.MethodName)) ∈ lw_all := lw_g (lw_at lw_m7 210 rfl) rfl
theorem q1731 : (Jvm.Cond.instanceMethod ({ cls := "java/util/HashMap", name := "newTreeNode", desc := "(ILjava/lang/Object;Ljava/lang/Object;Ljava/util/HashMap$Node;)Ljava/util/HashMap$TreeNode;" } : Jvm.MethodName)) ∈ lw_all := lw_g (lw_at lw_m7 215 rfl) rfl
theorem q1732 : (Jvm.Cond.selects "java/util/HashMap" ({ cls := "java/util/HashMap", name := "newTreeNode", desc := "(ILjava/lang/Object;Ljava/lang/Object;Ljava/util/HashMap$Node;)Ljava/util/HashMap$TreeNode;" } : Jvm.MethodName) ({ cls := "java/util/HashMap", name := "newTreeNode", desc := "(ILjava/lang/Object;Ljava/lang/Object;Ljava/util/HashMap$Node;)Ljava/util/HashMap$TreeNode;" } : Jvm.MethodName)) ∈ lw_all := lw_g (lw_at lw_m7 216 rfl) rfl
theorem q1733 : (Jvm.Cond.code ({ cls := "java/util/HashMap", name := "newTreeNode", desc := "(ILjava/lang/Object;Ljava/lang/Object;Ljava/util/HashMap$Node;)Ljava/util/HashMap$TreeNode;" } : Jvm.MethodName) prog_65_method_48_code (5 : Nat) (Option.some (Jvm.ClassFile.FieldType.object "java/util/HashMap$TreeNode"))) ∈ lw_all := lw_g (lw_at lw_m7 217 rfl) rfl
theorem q1735 : (Jvm.Cond.methodLink "java/util/HashMap" (378 : Nat) ({ cls := "java/util/HashMap$TreeNode", name := "<init>", desc := "(ILjava/lang/Object;Ljava/lang/Object;Ljava/util/HashMap$Node;)V" } : Jvm.MethodName)) ∈ lw_all := lw_g (lw_at lw_m7 219 rfl) rfl
theorem q1746 : (Jvm.Cond.fieldLink "java/util/HashMap" (219 : Nat) "java/util/HashMap$TreeNode" "prev" "Ljava/util/HashMap$TreeNode;") ∈ lw_all := lw_g (lw_at lw_m7 230 rfl) rfl
theorem q1767 : (Jvm.Cond.methodLink "java/util/HashMap" (194 : Nat) ({ cls := "java/util/HashMap", name := "treeifyBin", desc := "([Ljava/util/HashMap$Node;I)V" } : Jvm.MethodName)) ∈ lw_all := lw_g (lw_at lw_m8 11 rfl) rfl
theorem q1768 : (Jvm.Cond.instanceMethod ({ cls := "java/util/HashMap", name := "treeifyBin", desc := "([Ljava/util/HashMap$Node;I)V" } : Jvm.MethodName)) ∈ lw_all := lw_g (lw_at lw_m8 12 rfl) rfl
theorem q1769 : (Jvm.Cond.selects "java/util/HashMap" ({ cls := "java/util/HashMap", name := "treeifyBin", desc := "([Ljava/util/HashMap$Node;I)V" } : Jvm.MethodName) ({ cls := "java/util/HashMap", name := "treeifyBin", desc := "([Ljava/util/HashMap$Node;I)V" } : Jvm.MethodName)) ∈ lw_all := lw_g (lw_at lw_m8 13 rfl) rfl
theorem q1770 : (Jvm.Cond.code ({ cls := "java/util/HashMap", name := "treeifyBin", desc := "([Ljava/util/HashMap$Node;I)V" } : Jvm.MethodName) prog_65_method_18_code (9 : Nat) (Option.none : Option Jvm.ClassFile.FieldType)) ∈ lw_all := lw_g (lw_at lw_m8 14 rfl) rfl
theorem q1771 : (Jvm.Cond.methodLink "java/util/HashMap" (215 : Nat) ({ cls := "java/util/HashMap", name := "replacementTreeNode", desc := "(Ljava/util/HashMap$Node;Ljava/util/HashMap$Node;)Ljava/util/HashMap$TreeNode;" } : Jvm.MethodName)) ∈ lw_all := lw_g (lw_at lw_m8 15 rfl) rfl
theorem q1772 : (Jvm.Cond.instanceMethod ({ cls := "java/util/HashMap", name := "replacementTreeNode", desc := "(Ljava/util/HashMap$Node;Ljava/util/HashMap$Node;)Ljava/util/HashMap$TreeNode;" } : Jvm.MethodName)) ∈ lw_all := lw_g (lw_at lw_m8 16 rfl) rfl
theorem q1773 : (Jvm.Cond.selects "java/util/HashMap" ({ cls := "java/util/HashMap", name := "replacementTreeNode", desc := "(Ljava/util/HashMap$Node;Ljava/util/HashMap$Node;)Ljava/util/HashMap$TreeNode;" } : Jvm.MethodName) ({ cls := "java/util/HashMap", name := "replacementTreeNode", desc := "(Ljava/util/HashMap$Node;Ljava/util/HashMap$Node;)Ljava/util/HashMap$TreeNode;" } : Jvm.MethodName)) ∈ lw_all := lw_g (lw_at lw_m8 17 rfl) rfl
theorem q1774 : (Jvm.Cond.code ({ cls := "java/util/HashMap", name := "replacementTreeNode", desc := "(Ljava/util/HashMap$Node;Ljava/util/HashMap$Node;)Ljava/util/HashMap$TreeNode;" } : Jvm.MethodName) prog_65_method_49_code (3 : Nat) (Option.some (Jvm.ClassFile.FieldType.object "java/util/HashMap$TreeNode"))) ∈ lw_all := lw_g (lw_at lw_m8 18 rfl) rfl
theorem q1775 : (Jvm.Cond.methodLink "java/util/HashMap" (224 : Nat) ({ cls := "java/util/HashMap$TreeNode", name := "treeify", desc := "([Ljava/util/HashMap$Node;)V" } : Jvm.MethodName)) ∈ lw_all := lw_g (lw_at lw_m8 19 rfl) rfl
theorem q1776 : (Jvm.Cond.methodLink "java/util/HashMap" (198 : Nat) ({ cls := "java/util/HashMap", name := "afterNodeAccess", desc := "(Ljava/util/HashMap$Node;)V" } : Jvm.MethodName)) ∈ lw_all := lw_g (lw_at lw_m8 20 rfl) rfl
theorem q1777 : (Jvm.Cond.instanceMethod ({ cls := "java/util/HashMap", name := "afterNodeAccess", desc := "(Ljava/util/HashMap$Node;)V" } : Jvm.MethodName)) ∈ lw_all := lw_g (lw_at lw_m8 21 rfl) rfl
theorem q1778 : (Jvm.Cond.selects "java/util/HashMap" ({ cls := "java/util/HashMap", name := "afterNodeAccess", desc := "(Ljava/util/HashMap$Node;)V" } : Jvm.MethodName) ({ cls := "java/util/HashMap", name := "afterNodeAccess", desc := "(Ljava/util/HashMap$Node;)V" } : Jvm.MethodName)) ∈ lw_all := lw_g (lw_at lw_m8 22 rfl) rfl
theorem q1779 : (Jvm.Cond.code ({ cls := "java/util/HashMap", name := "afterNodeAccess", desc := "(Ljava/util/HashMap$Node;)V" } : Jvm.MethodName) prog_65_method_51_code (2 : Nat) (Option.none : Option Jvm.ClassFile.FieldType)) ∈ lw_all := lw_g (lw_at lw_m8 23 rfl) rfl
theorem q1780 : (Jvm.Cond.methodLink "java/util/HashMap" (205 : Nat) ({ cls := "java/util/HashMap", name := "afterNodeInsertion", desc := "(Z)V" } : Jvm.MethodName)) ∈ lw_all := lw_g (lw_at lw_m8 24 rfl) rfl
theorem q1781 : (Jvm.Cond.instanceMethod ({ cls := "java/util/HashMap", name := "afterNodeInsertion", desc := "(Z)V" } : Jvm.MethodName)) ∈ lw_all := lw_g (lw_at lw_m8 25 rfl) rfl
theorem q1782 : (Jvm.Cond.selects "java/util/HashMap" ({ cls := "java/util/HashMap", name := "afterNodeInsertion", desc := "(Z)V" } : Jvm.MethodName) ({ cls := "java/util/HashMap", name := "afterNodeInsertion", desc := "(Z)V" } : Jvm.MethodName)) ∈ lw_all := lw_g (lw_at lw_m8 26 rfl) rfl
theorem q1783 : (Jvm.Cond.code ({ cls := "java/util/HashMap", name := "afterNodeInsertion", desc := "(Z)V" } : Jvm.MethodName) prog_65_method_52_code (2 : Nat) (Option.none : Option Jvm.ClassFile.FieldType)) ∈ lw_all := lw_g (lw_at lw_m8 27 rfl) rfl
theorem q2284 : (Jvm.Cond.instanceMethod ({ cls := "java/util/HashMap", name := "removeNode", desc := "(ILjava/lang/Object;Ljava/lang/Object;ZZ)Ljava/util/HashMap$Node;" } : Jvm.MethodName)) ∈ lw_all := lw_g (lw_at lw_m10 48 rfl) rfl
theorem q2285 : (Jvm.Cond.selects "java/util/HashMap" ({ cls := "java/util/HashMap", name := "removeNode", desc := "(ILjava/lang/Object;Ljava/lang/Object;ZZ)Ljava/util/HashMap$Node;" } : Jvm.MethodName) ({ cls := "java/util/HashMap", name := "removeNode", desc := "(ILjava/lang/Object;Ljava/lang/Object;ZZ)Ljava/util/HashMap$Node;" } : Jvm.MethodName)) ∈ lw_all := lw_g (lw_at lw_m10 49 rfl) rfl
theorem q2286 : (Jvm.Cond.code ({ cls := "java/util/HashMap", name := "removeNode", desc := "(ILjava/lang/Object;Ljava/lang/Object;ZZ)Ljava/util/HashMap$Node;" } : Jvm.MethodName) prog_65_method_21_code (14 : Nat) (Option.some (Jvm.ClassFile.FieldType.object "java/util/HashMap$Node"))) ∈ lw_all := lw_g (lw_at lw_m10 50 rfl) rfl
theorem q2287 : (Jvm.Cond.methodLink "java/util/HashMap" (232 : Nat) ({ cls := "java/util/HashMap$TreeNode", name := "removeTreeNode", desc := "(Ljava/util/HashMap;[Ljava/util/HashMap$Node;Z)V" } : Jvm.MethodName)) ∈ lw_all := lw_g (lw_at lw_m10 51 rfl) rfl
theorem q2294 : (Jvm.Cond.methodLink "java/util/HashMap" (236 : Nat) ({ cls := "java/util/HashMap", name := "afterNodeRemoval", desc := "(Ljava/util/HashMap$Node;)V" } : Jvm.MethodName)) ∈ lw_all := lw_g (lw_at lw_m10 58 rfl) rfl
theorem q2295 : (Jvm.Cond.instanceMethod ({ cls := "java/util/HashMap", name := "afterNodeRemoval", desc := "(Ljava/util/HashMap$Node;)V" } : Jvm.MethodName)) ∈ lw_all := lw_g (lw_at lw_m10 59 rfl) rfl
theorem q2296 : (Jvm.Cond.selects "java/util/HashMap" ({ cls := "java/util/HashMap", name := "afterNodeRemoval", desc := "(Ljava/util/HashMap$Node;)V" } : Jvm.MethodName) ({ cls := "java/util/HashMap", name := "afterNodeRemoval", desc := "(Ljava/util/HashMap$Node;)V" } : Jvm.MethodName)) ∈ lw_all := lw_g (lw_at lw_m10 60 rfl) rfl
theorem q2297 : (Jvm.Cond.code ({ cls := "java/util/HashMap", name := "afterNodeRemoval", desc := "(Ljava/util/HashMap$Node;)V" } : Jvm.MethodName) prog_65_method_53_code (2 : Nat) (Option.none : Option Jvm.ClassFile.FieldType)) ∈ lw_all := lw_g (lw_at lw_m10 61 rfl) rfl
theorem q2599 : (Jvm.Cond.castable "java/util/HashMap" "java/util/Map") ∈ lw_tbl := lw_at lw_m11 123 rfl
theorem q2600 : (Jvm.Cond.selects "java/util/HashMap" ({ cls := "java/util/Map", name := "size", desc := "()I" } : Jvm.MethodName) ({ cls := "java/util/HashMap", name := "size", desc := "()I" } : Jvm.MethodName)) ∈ lw_all := lw_g (lw_at lw_m11 124 rfl) rfl
theorem q2601 : (Jvm.Cond.unhidden "java/util/HashMap" "size" "()I") ∈ lw_tbl := lw_at lw_m11 125 rfl
theorem q2602 : (Jvm.Cond.instanceMethod ({ cls := "java/util/HashMap", name := "size", desc := "()I" } : Jvm.MethodName)) ∈ lw_all := lw_g (lw_at lw_m11 126 rfl) rfl
theorem q2603 : (Jvm.Cond.publicMethod ({ cls := "java/util/HashMap", name := "size", desc := "()I" } : Jvm.MethodName)) ∈ lw_tbl := lw_at lw_m11 127 rfl
theorem q2604 : (Jvm.Cond.code ({ cls := "java/util/HashMap", name := "size", desc := "()I" } : Jvm.MethodName) prog_65_method_10_code (1 : Nat) (Option.some Jvm.ClassFile.FieldType.int)) ∈ lw_all := lw_g (lw_at lw_m11 128 rfl) rfl
theorem q2630 : (Jvm.Cond.selects "java/util/HashMap" ({ cls := "java/util/Map", name := "entrySet", desc := "()Ljava/util/Set;" } : Jvm.MethodName) ({ cls := "java/util/HashMap", name := "entrySet", desc := "()Ljava/util/Set;" } : Jvm.MethodName)) ∈ lw_all := lw_g (lw_at lw_m11 154 rfl) rfl
theorem q2631 : (Jvm.Cond.unhidden "java/util/HashMap" "entrySet" "()Ljava/util/Set;") ∈ lw_tbl := lw_at lw_m11 155 rfl
theorem q2632 : (Jvm.Cond.instanceMethod ({ cls := "java/util/HashMap", name := "entrySet", desc := "()Ljava/util/Set;" } : Jvm.MethodName)) ∈ lw_all := lw_g (lw_at lw_m11 156 rfl) rfl
theorem q2633 : (Jvm.Cond.publicMethod ({ cls := "java/util/HashMap", name := "entrySet", desc := "()Ljava/util/Set;" } : Jvm.MethodName)) ∈ lw_tbl := lw_at lw_m11 157 rfl
theorem q2634 : (Jvm.Cond.code ({ cls := "java/util/HashMap", name := "entrySet", desc := "()Ljava/util/Set;" } : Jvm.MethodName) prog_65_method_29_code (2 : Nat) (Option.some (Jvm.ClassFile.FieldType.object "java/util/Set"))) ∈ lw_all := lw_g (lw_at lw_m11 158 rfl) rfl
theorem q2635 : (Jvm.Cond.classLink "java/util/HashMap" (268 : Nat) "java/util/HashMap$EntrySet") ∈ lw_all := lw_g (lw_at lw_m11 159 rfl) rfl
theorem q2637 : (Jvm.Cond.methodLink "java/util/HashMap" (270 : Nat) ({ cls := "java/util/HashMap$EntrySet", name := "<init>", desc := "(Ljava/util/HashMap;)V" } : Jvm.MethodName)) ∈ lw_all := lw_g (lw_at lw_m11 161 rfl) rfl
theorem q2731 : (Jvm.Cond.selects "java/util/HashMap" ({ cls := "java/util/AbstractMap", name := "put", desc := "(Ljava/lang/Object;Ljava/lang/Object;)Ljava/lang/Object;" } : Jvm.MethodName) ({ cls := "java/util/HashMap", name := "put", desc := "(Ljava/lang/Object;Ljava/lang/Object;)Ljava/lang/Object;" } : Jvm.MethodName)) ∈ lw_all := lw_g (lw_at lw_m12 15 rfl) rfl
theorem q3681 : (Jvm.Cond.castable "java/util/HashMap" "java/lang/Object") ∈ lw_tbl := lw_at lw_m16 5 rfl
theorem in_J4 : ∀ w ∈ wsJ40, w ∈ lw_all := lw_in wsJ40 [227, 229, 215, 217, 219, 221, 223, 225] (by decide +kernel) (by decide +kernel)
/-! java/util/BitSet -/
def RJ5 : String := "java/util/BitSet"
def TJ5 : u_T := fun k => match k with
  | 0 => ("java/util/BitSet", "words", "[J", false)
  | 1 => ("java/util/BitSet", "wordsInUse", "I", false)
  | _ => ("java/util/BitSet", "sizeIsSticky", "Z", false)
def tyJ5 : Nat → FieldType := fun k => match k with
  | 0 => .array .long
  | 1 => .int
  | _ => .boolean
abbrev wsJ50 : List Cond := u_ws RJ5 TJ5 3
theorem nmJ5 : ∀ a, a < 3 → ∀ b, b < 3 → a ≠ b → (TJ5 a).2.1 ≠ (TJ5 b).2.1 := by decide +kernel
theorem tyJ5_ok : ∀ k, k < 3 → parseFieldDescriptor (TJ5 k).2.2.1 = some (tyJ5 k) := by decide +kernel
abbrev cJ5_init : ByteArray := prog_61_method_4_code
def yJ5_init : MethodName := ⟨RJ5, "<init>", "()V"⟩
def dkwJ5_init_1 : List UInt8 := [181, 0, 24, 177]
abbrev dktJ5_init_1 : List UInt8 := dkwJ5_init_1 ++ []
def dkwJ5_init_0 : List UInt8 := [42, 183, 0, 21, 42, 3, 181, 0, 7, 42, 3, 181, 0, 24, 42, 16, 64, 182, 0, 27, 42, 3]
abbrev dktJ5_init_0 : List UInt8 := dkwJ5_init_0 ++ dktJ5_init_1
theorem dksJ5_init_0 : cJ5_init.data.toList.drop 0 = dktJ5_init_0 := by decide +kernel
theorem dksJ5_init_1 : cJ5_init.data.toList.drop 22 = dktJ5_init_1 := dk_seg dksJ5_init_0 22 rfl rfl
theorem dJ5_init_0 : decode cJ5_init 0 = .ok (.aload_n 0, 1) := dk_42 (dk_at dksJ5_init_0 0 rfl rfl)
theorem dJ5_init_1 : decode cJ5_init 1 = .ok (.invokespecial 21, 3) := dk_183 0 21 (dk_at dksJ5_init_0 1 rfl rfl)
theorem dJ5_init_4 : decode cJ5_init 4 = .ok (.aload_n 0, 1) := dk_42 (dk_at dksJ5_init_0 4 rfl rfl)
theorem dJ5_init_5 : decode cJ5_init 5 = .ok (.iconst 0, 1) := dk_3 (dk_at dksJ5_init_0 5 rfl rfl)
theorem dJ5_init_6 : decode cJ5_init 6 = .ok (.putfield 7, 3) := dk_181 0 7 (dk_at dksJ5_init_0 6 rfl rfl)
theorem dJ5_init_9 : decode cJ5_init 9 = .ok (.aload_n 0, 1) := dk_42 (dk_at dksJ5_init_0 9 rfl rfl)
theorem dJ5_init_10 : decode cJ5_init 10 = .ok (.iconst 0, 1) := dk_3 (dk_at dksJ5_init_0 10 rfl rfl)
theorem dJ5_init_11 : decode cJ5_init 11 = .ok (.putfield 24, 3) := dk_181 0 24 (dk_at dksJ5_init_0 11 rfl rfl)
theorem dJ5_init_14 : decode cJ5_init 14 = .ok (.aload_n 0, 1) := dk_42 (dk_at dksJ5_init_0 14 rfl rfl)
theorem dJ5_init_15 : decode cJ5_init 15 = .ok (.bipush 64, 2) := dk_16 64 (dk_at dksJ5_init_0 15 rfl rfl)
theorem dJ5_init_17 : decode cJ5_init 17 = .ok (.invokevirtual 27, 3) := dk_182 0 27 (dk_at dksJ5_init_0 17 rfl rfl)
theorem dJ5_init_20 : decode cJ5_init 20 = .ok (.aload_n 0, 1) := dk_42 (dk_at dksJ5_init_0 20 rfl rfl)
theorem dJ5_init_21 : decode cJ5_init 21 = .ok (.iconst 0, 1) := dk_3 (dk_at dksJ5_init_0 21 rfl rfl)
theorem dJ5_init_22 : decode cJ5_init 22 = .ok (.putfield 24, 3) := dk_181 0 24 (dk_at dksJ5_init_1 0 rfl rfl)
theorem dJ5_init_25 : decode cJ5_init 25 = .ok (.return_, 1) := dk_177 (dk_at dksJ5_init_1 3 rfl rfl)
abbrev cJ5_initWords : ByteArray := prog_61_method_6_code
def yJ5_initWords : MethodName := ⟨RJ5, "initWords", "(I)V"⟩
def dkwJ5_initWords_0 : List UInt8 := [42, 27, 4, 100, 184, 0, 52, 4, 96, 188, 11, 181, 0, 11, 177]
abbrev dktJ5_initWords_0 : List UInt8 := dkwJ5_initWords_0 ++ []
theorem dksJ5_initWords_0 : cJ5_initWords.data.toList.drop 0 = dktJ5_initWords_0 := by decide +kernel
theorem dJ5_initWords_0 : decode cJ5_initWords 0 = .ok (.aload_n 0, 1) := dk_42 (dk_at dksJ5_initWords_0 0 rfl rfl)
theorem dJ5_initWords_1 : decode cJ5_initWords 1 = .ok (.iload_n 1, 1) := dk_27 (dk_at dksJ5_initWords_0 1 rfl rfl)
theorem dJ5_initWords_2 : decode cJ5_initWords 2 = .ok (.iconst 1, 1) := dk_4 (dk_at dksJ5_initWords_0 2 rfl rfl)
theorem dJ5_initWords_3 : decode cJ5_initWords 3 = .ok (.isub, 1) := dk_100 (dk_at dksJ5_initWords_0 3 rfl rfl)
theorem dJ5_initWords_4 : decode cJ5_initWords 4 = .ok (.invokestatic 52, 3) := dk_184 0 52 (dk_at dksJ5_initWords_0 4 rfl rfl)
theorem dJ5_initWords_7 : decode cJ5_initWords 7 = .ok (.iconst 1, 1) := dk_4 (dk_at dksJ5_initWords_0 7 rfl rfl)
theorem dJ5_initWords_8 : decode cJ5_initWords 8 = .ok (.iadd, 1) := dk_96 (dk_at dksJ5_initWords_0 8 rfl rfl)
theorem dJ5_initWords_9 : decode cJ5_initWords 9 = .ok (.newarray .long, 2) := dk_188_11 (dk_at dksJ5_initWords_0 9 rfl rfl)
theorem dJ5_initWords_11 : decode cJ5_initWords 11 = .ok (.putfield 11, 3) := dk_181 0 11 (dk_at dksJ5_initWords_0 11 rfl rfl)
theorem dJ5_initWords_14 : decode cJ5_initWords 14 = .ok (.return_, 1) := dk_177 (dk_at dksJ5_initWords_0 14 rfl rfl)
abbrev cJ5_wordIndex : ByteArray := prog_61_method_1_code
def yJ5_wordIndex : MethodName := ⟨RJ5, "wordIndex", "(I)I"⟩
def dkwJ5_wordIndex_0 : List UInt8 := [26, 16, 6, 122, 172]
abbrev dktJ5_wordIndex_0 : List UInt8 := dkwJ5_wordIndex_0 ++ []
theorem dksJ5_wordIndex_0 : cJ5_wordIndex.data.toList.drop 0 = dktJ5_wordIndex_0 := by decide +kernel
theorem dJ5_wordIndex_0 : decode cJ5_wordIndex 0 = .ok (.iload_n 0, 1) := dk_26 (dk_at dksJ5_wordIndex_0 0 rfl rfl)
theorem dJ5_wordIndex_1 : decode cJ5_wordIndex 1 = .ok (.bipush 6, 2) := dk_16 6 (dk_at dksJ5_wordIndex_0 1 rfl rfl)
theorem dJ5_wordIndex_3 : decode cJ5_wordIndex 3 = .ok (.ishr, 1) := dk_122 (dk_at dksJ5_wordIndex_0 3 rfl rfl)
theorem dJ5_wordIndex_4 : decode cJ5_wordIndex 4 = .ok (.ireturn, 1) := dk_172 (dk_at dksJ5_wordIndex_0 4 rfl rfl)
abbrev cJ5_nextSetBit : ByteArray := prog_61_method_28_code
def yJ5_nextSetBit : MethodName := ⟨RJ5, "nextSetBit", "(I)I"⟩
def dkwJ5_nextSetBit_4 : List UInt8 := [28, 47, 66, 167, 255, 220]
abbrev dktJ5_nextSetBit_4 : List UInt8 := dkwJ5_nextSetBit_4 ++ []
def dkwJ5_nextSetBit_3 : List UInt8 := [104, 33, 184, 0, 182, 96, 172, 132, 2, 1, 28, 42, 180, 0, 7, 160, 0, 5, 2, 172, 42, 180, 0, 11]
abbrev dktJ5_nextSetBit_3 : List UInt8 := dkwJ5_nextSetBit_3 ++ dktJ5_nextSetBit_4
def dkwJ5_nextSetBit_2 : List UInt8 := [2, 172, 42, 180, 0, 11, 28, 47, 20, 0, 165, 27, 121, 127, 66, 33, 9, 148, 153, 0, 13, 28, 16, 64]
abbrev dktJ5_nextSetBit_2 : List UInt8 := dkwJ5_nextSetBit_2 ++ dktJ5_nextSetBit_3
def dkwJ5_nextSetBit_1 : List UInt8 := [182, 0, 45, 183, 0, 146, 191, 42, 182, 0, 56, 27, 184, 0, 52, 61, 28, 42, 180, 0, 7, 161, 0, 5]
abbrev dktJ5_nextSetBit_1 : List UInt8 := dkwJ5_nextSetBit_1 ++ dktJ5_nextSetBit_2
def dkwJ5_nextSetBit_0 : List UInt8 := [27, 156, 0, 30, 187, 0, 142, 89, 187, 0, 33, 89, 183, 0, 35, 18, 144, 182, 0, 38, 27, 182, 0, 42]
abbrev dktJ5_nextSetBit_0 : List UInt8 := dkwJ5_nextSetBit_0 ++ dktJ5_nextSetBit_1
theorem dksJ5_nextSetBit_0 : cJ5_nextSetBit.data.toList.drop 0 = dktJ5_nextSetBit_0 := by decide +kernel
theorem dksJ5_nextSetBit_1 : cJ5_nextSetBit.data.toList.drop 24 = dktJ5_nextSetBit_1 := dk_seg dksJ5_nextSetBit_0 24 rfl rfl
theorem dksJ5_nextSetBit_2 : cJ5_nextSetBit.data.toList.drop 48 = dktJ5_nextSetBit_2 := dk_seg dksJ5_nextSetBit_1 24 rfl rfl
theorem dksJ5_nextSetBit_3 : cJ5_nextSetBit.data.toList.drop 72 = dktJ5_nextSetBit_3 := dk_seg dksJ5_nextSetBit_2 24 rfl rfl
theorem dksJ5_nextSetBit_4 : cJ5_nextSetBit.data.toList.drop 96 = dktJ5_nextSetBit_4 := dk_seg dksJ5_nextSetBit_3 24 rfl rfl
theorem dJ5_nextSetBit_0 : decode cJ5_nextSetBit 0 = .ok (.iload_n 1, 1) := dk_27 (dk_at dksJ5_nextSetBit_0 0 rfl rfl)
theorem dJ5_nextSetBit_1 : decode cJ5_nextSetBit 1 = .ok (.ifCond .ge 30, 3) := dk_156 0 30 (dk_at dksJ5_nextSetBit_0 1 rfl rfl)
theorem dJ5_nextSetBit_4 : decode cJ5_nextSetBit 4 = .ok (.new 142, 3) := dk_187 0 142 (dk_at dksJ5_nextSetBit_0 4 rfl rfl)
theorem dJ5_nextSetBit_7 : decode cJ5_nextSetBit 7 = .ok (.dup, 1) := dk_89 (dk_at dksJ5_nextSetBit_0 7 rfl rfl)
theorem dJ5_nextSetBit_8 : decode cJ5_nextSetBit 8 = .ok (.new 33, 3) := dk_187 0 33 (dk_at dksJ5_nextSetBit_0 8 rfl rfl)
theorem dJ5_nextSetBit_11 : decode cJ5_nextSetBit 11 = .ok (.dup, 1) := dk_89 (dk_at dksJ5_nextSetBit_0 11 rfl rfl)
theorem dJ5_nextSetBit_12 : decode cJ5_nextSetBit 12 = .ok (.invokespecial 35, 3) := dk_183 0 35 (dk_at dksJ5_nextSetBit_0 12 rfl rfl)
theorem dJ5_nextSetBit_15 : decode cJ5_nextSetBit 15 = .ok (.ldc 144, 2) := dk_18 144 (dk_at dksJ5_nextSetBit_0 15 rfl rfl)
theorem dJ5_nextSetBit_17 : decode cJ5_nextSetBit 17 = .ok (.invokevirtual 38, 3) := dk_182 0 38 (dk_at dksJ5_nextSetBit_0 17 rfl rfl)
theorem dJ5_nextSetBit_20 : decode cJ5_nextSetBit 20 = .ok (.iload_n 1, 1) := dk_27 (dk_at dksJ5_nextSetBit_0 20 rfl rfl)
theorem dJ5_nextSetBit_21 : decode cJ5_nextSetBit 21 = .ok (.invokevirtual 42, 3) := dk_182 0 42 (dk_at dksJ5_nextSetBit_0 21 rfl rfl)
theorem dJ5_nextSetBit_24 : decode cJ5_nextSetBit 24 = .ok (.invokevirtual 45, 3) := dk_182 0 45 (dk_at dksJ5_nextSetBit_1 0 rfl rfl)
theorem dJ5_nextSetBit_27 : decode cJ5_nextSetBit 27 = .ok (.invokespecial 146, 3) := dk_183 0 146 (dk_at dksJ5_nextSetBit_1 3 rfl rfl)
theorem dJ5_nextSetBit_30 : decode cJ5_nextSetBit 30 = .ok (.athrow, 1) := dk_191 (dk_at dksJ5_nextSetBit_1 6 rfl rfl)
theorem dJ5_nextSetBit_31 : decode cJ5_nextSetBit 31 = .ok (.aload_n 0, 1) := dk_42 (dk_at dksJ5_nextSetBit_1 7 rfl rfl)
theorem dJ5_nextSetBit_32 : decode cJ5_nextSetBit 32 = .ok (.invokevirtual 56, 3) := dk_182 0 56 (dk_at dksJ5_nextSetBit_1 8 rfl rfl)
theorem dJ5_nextSetBit_35 : decode cJ5_nextSetBit 35 = .ok (.iload_n 1, 1) := dk_27 (dk_at dksJ5_nextSetBit_1 11 rfl rfl)
theorem dJ5_nextSetBit_36 : decode cJ5_nextSetBit 36 = .ok (.invokestatic 52, 3) := dk_184 0 52 (dk_at dksJ5_nextSetBit_1 12 rfl rfl)
theorem dJ5_nextSetBit_39 : decode cJ5_nextSetBit 39 = .ok (.istore_n 2, 1) := dk_61 (dk_at dksJ5_nextSetBit_1 15 rfl rfl)
theorem dJ5_nextSetBit_40 : decode cJ5_nextSetBit 40 = .ok (.iload_n 2, 1) := dk_28 (dk_at dksJ5_nextSetBit_1 16 rfl rfl)
theorem dJ5_nextSetBit_41 : decode cJ5_nextSetBit 41 = .ok (.aload_n 0, 1) := dk_42 (dk_at dksJ5_nextSetBit_1 17 rfl rfl)
theorem dJ5_nextSetBit_42 : decode cJ5_nextSetBit 42 = .ok (.getfield 7, 3) := dk_180 0 7 (dk_at dksJ5_nextSetBit_1 18 rfl rfl)
theorem dJ5_nextSetBit_45 : decode cJ5_nextSetBit 45 = .ok (.if_icmp .lt 5, 3) := dk_161 0 5 (dk_at dksJ5_nextSetBit_1 21 rfl rfl)
theorem dJ5_nextSetBit_48 : decode cJ5_nextSetBit 48 = .ok (.iconst (-1), 1) := dk_2 (dk_at dksJ5_nextSetBit_2 0 rfl rfl)
theorem dJ5_nextSetBit_49 : decode cJ5_nextSetBit 49 = .ok (.ireturn, 1) := dk_172 (dk_at dksJ5_nextSetBit_2 1 rfl rfl)
theorem dJ5_nextSetBit_50 : decode cJ5_nextSetBit 50 = .ok (.aload_n 0, 1) := dk_42 (dk_at dksJ5_nextSetBit_2 2 rfl rfl)
theorem dJ5_nextSetBit_51 : decode cJ5_nextSetBit 51 = .ok (.getfield 11, 3) := dk_180 0 11 (dk_at dksJ5_nextSetBit_2 3 rfl rfl)
theorem dJ5_nextSetBit_54 : decode cJ5_nextSetBit 54 = .ok (.iload_n 2, 1) := dk_28 (dk_at dksJ5_nextSetBit_2 6 rfl rfl)
theorem dJ5_nextSetBit_55 : decode cJ5_nextSetBit 55 = .ok (.laload, 1) := dk_47 (dk_at dksJ5_nextSetBit_2 7 rfl rfl)
theorem dJ5_nextSetBit_56 : decode cJ5_nextSetBit 56 = .ok (.ldc2_w 165, 3) := dk_20 0 165 (dk_at dksJ5_nextSetBit_2 8 rfl rfl)
theorem dJ5_nextSetBit_59 : decode cJ5_nextSetBit 59 = .ok (.iload_n 1, 1) := dk_27 (dk_at dksJ5_nextSetBit_2 11 rfl rfl)
theorem dJ5_nextSetBit_60 : decode cJ5_nextSetBit 60 = .ok (.lshl, 1) := dk_121 (dk_at dksJ5_nextSetBit_2 12 rfl rfl)
theorem dJ5_nextSetBit_61 : decode cJ5_nextSetBit 61 = .ok (.land, 1) := dk_127 (dk_at dksJ5_nextSetBit_2 13 rfl rfl)
theorem dJ5_nextSetBit_62 : decode cJ5_nextSetBit 62 = .ok (.lstore_n 3, 1) := dk_66 (dk_at dksJ5_nextSetBit_2 14 rfl rfl)
theorem dJ5_nextSetBit_63 : decode cJ5_nextSetBit 63 = .ok (.lload_n 3, 1) := dk_33 (dk_at dksJ5_nextSetBit_2 15 rfl rfl)
theorem dJ5_nextSetBit_64 : decode cJ5_nextSetBit 64 = .ok (.lconst 0, 1) := dk_9 (dk_at dksJ5_nextSetBit_2 16 rfl rfl)
theorem dJ5_nextSetBit_65 : decode cJ5_nextSetBit 65 = .ok (.lcmp, 1) := dk_148 (dk_at dksJ5_nextSetBit_2 17 rfl rfl)
theorem dJ5_nextSetBit_66 : decode cJ5_nextSetBit 66 = .ok (.ifCond .eq 13, 3) := dk_153 0 13 (dk_at dksJ5_nextSetBit_2 18 rfl rfl)
theorem dJ5_nextSetBit_69 : decode cJ5_nextSetBit 69 = .ok (.iload_n 2, 1) := dk_28 (dk_at dksJ5_nextSetBit_2 21 rfl rfl)
theorem dJ5_nextSetBit_70 : decode cJ5_nextSetBit 70 = .ok (.bipush 64, 2) := dk_16 64 (dk_at dksJ5_nextSetBit_2 22 rfl rfl)
theorem dJ5_nextSetBit_72 : decode cJ5_nextSetBit 72 = .ok (.imul, 1) := dk_104 (dk_at dksJ5_nextSetBit_3 0 rfl rfl)
theorem dJ5_nextSetBit_73 : decode cJ5_nextSetBit 73 = .ok (.lload_n 3, 1) := dk_33 (dk_at dksJ5_nextSetBit_3 1 rfl rfl)
theorem dJ5_nextSetBit_74 : decode cJ5_nextSetBit 74 = .ok (.invokestatic 182, 3) := dk_184 0 182 (dk_at dksJ5_nextSetBit_3 2 rfl rfl)
theorem dJ5_nextSetBit_77 : decode cJ5_nextSetBit 77 = .ok (.iadd, 1) := dk_96 (dk_at dksJ5_nextSetBit_3 5 rfl rfl)
theorem dJ5_nextSetBit_78 : decode cJ5_nextSetBit 78 = .ok (.ireturn, 1) := dk_172 (dk_at dksJ5_nextSetBit_3 6 rfl rfl)
theorem dJ5_nextSetBit_79 : decode cJ5_nextSetBit 79 = .ok (.iinc 2 1, 3) := dk_132 2 1 (dk_at dksJ5_nextSetBit_3 7 rfl rfl)
theorem dJ5_nextSetBit_82 : decode cJ5_nextSetBit 82 = .ok (.iload_n 2, 1) := dk_28 (dk_at dksJ5_nextSetBit_3 10 rfl rfl)
theorem dJ5_nextSetBit_83 : decode cJ5_nextSetBit 83 = .ok (.aload_n 0, 1) := dk_42 (dk_at dksJ5_nextSetBit_3 11 rfl rfl)
theorem dJ5_nextSetBit_84 : decode cJ5_nextSetBit 84 = .ok (.getfield 7, 3) := dk_180 0 7 (dk_at dksJ5_nextSetBit_3 12 rfl rfl)
theorem dJ5_nextSetBit_87 : decode cJ5_nextSetBit 87 = .ok (.if_icmp .ne 5, 3) := dk_160 0 5 (dk_at dksJ5_nextSetBit_3 15 rfl rfl)
theorem dJ5_nextSetBit_90 : decode cJ5_nextSetBit 90 = .ok (.iconst (-1), 1) := dk_2 (dk_at dksJ5_nextSetBit_3 18 rfl rfl)
theorem dJ5_nextSetBit_91 : decode cJ5_nextSetBit 91 = .ok (.ireturn, 1) := dk_172 (dk_at dksJ5_nextSetBit_3 19 rfl rfl)
theorem dJ5_nextSetBit_92 : decode cJ5_nextSetBit 92 = .ok (.aload_n 0, 1) := dk_42 (dk_at dksJ5_nextSetBit_3 20 rfl rfl)
theorem dJ5_nextSetBit_93 : decode cJ5_nextSetBit 93 = .ok (.getfield 11, 3) := dk_180 0 11 (dk_at dksJ5_nextSetBit_3 21 rfl rfl)
theorem dJ5_nextSetBit_96 : decode cJ5_nextSetBit 96 = .ok (.iload_n 2, 1) := dk_28 (dk_at dksJ5_nextSetBit_4 0 rfl rfl)
theorem dJ5_nextSetBit_97 : decode cJ5_nextSetBit 97 = .ok (.laload, 1) := dk_47 (dk_at dksJ5_nextSetBit_4 1 rfl rfl)
theorem dJ5_nextSetBit_98 : decode cJ5_nextSetBit 98 = .ok (.lstore_n 3, 1) := dk_66 (dk_at dksJ5_nextSetBit_4 2 rfl rfl)
theorem dJ5_nextSetBit_99 : decode cJ5_nextSetBit 99 = .ok (.goto (-36), 3) := dk_167 255 220 (dk_at dksJ5_nextSetBit_4 3 rfl rfl)
abbrev cJ5_checkInvariants : ByteArray := prog_61_method_2_code
def yJ5_checkInvariants : MethodName := ⟨RJ5, "checkInvariants", "()V"⟩
def dkwJ5_checkInvariants_4 : List UInt8 := [180, 0, 7, 47, 9, 148, 153, 0, 11, 187, 0, 15, 89, 183, 0, 17, 191, 177]
abbrev dktJ5_checkInvariants_4 : List UInt8 := dkwJ5_checkInvariants_4 ++ []
def dkwJ5_checkInvariants_3 : List UInt8 := [178, 0, 3, 154, 0, 37, 42, 180, 0, 7, 42, 180, 0, 11, 190, 159, 0, 25, 42, 180, 0, 11, 42]
abbrev dktJ5_checkInvariants_3 : List UInt8 := dkwJ5_checkInvariants_3 ++ dktJ5_checkInvariants_4
def dkwJ5_checkInvariants_2 : List UInt8 := [155, 0, 15, 42, 180, 0, 7, 42, 180, 0, 11, 190, 164, 0, 11, 187, 0, 15, 89, 183, 0, 17, 191]
abbrev dktJ5_checkInvariants_2 : List UInt8 := dkwJ5_checkInvariants_2 ++ dktJ5_checkInvariants_3
def dkwJ5_checkInvariants_1 : List UInt8 := [9, 148, 154, 0, 11, 187, 0, 15, 89, 183, 0, 17, 191, 178, 0, 3, 154, 0, 30, 42, 180, 0, 7]
abbrev dktJ5_checkInvariants_1 : List UInt8 := dkwJ5_checkInvariants_1 ++ dktJ5_checkInvariants_2
def dkwJ5_checkInvariants_0 : List UInt8 := [178, 0, 3, 154, 0, 34, 42, 180, 0, 7, 153, 0, 27, 42, 180, 0, 11, 42, 180, 0, 7, 4, 100, 47]
abbrev dktJ5_checkInvariants_0 : List UInt8 := dkwJ5_checkInvariants_0 ++ dktJ5_checkInvariants_1
theorem dksJ5_checkInvariants_0 : cJ5_checkInvariants.data.toList.drop 0 = dktJ5_checkInvariants_0 := by decide +kernel
theorem dksJ5_checkInvariants_1 : cJ5_checkInvariants.data.toList.drop 24 = dktJ5_checkInvariants_1 := dk_seg dksJ5_checkInvariants_0 24 rfl rfl
theorem dksJ5_checkInvariants_2 : cJ5_checkInvariants.data.toList.drop 47 = dktJ5_checkInvariants_2 := dk_seg dksJ5_checkInvariants_1 23 rfl rfl
theorem dksJ5_checkInvariants_3 : cJ5_checkInvariants.data.toList.drop 70 = dktJ5_checkInvariants_3 := dk_seg dksJ5_checkInvariants_2 23 rfl rfl
theorem dksJ5_checkInvariants_4 : cJ5_checkInvariants.data.toList.drop 93 = dktJ5_checkInvariants_4 := dk_seg dksJ5_checkInvariants_3 23 rfl rfl
theorem dJ5_checkInvariants_0 : decode cJ5_checkInvariants 0 = .ok (.getstatic 3, 3) := dk_178 0 3 (dk_at dksJ5_checkInvariants_0 0 rfl rfl)
theorem dJ5_checkInvariants_3 : decode cJ5_checkInvariants 3 = .ok (.ifCond .ne 34, 3) := dk_154 0 34 (dk_at dksJ5_checkInvariants_0 3 rfl rfl)
theorem dJ5_checkInvariants_6 : decode cJ5_checkInvariants 6 = .ok (.aload_n 0, 1) := dk_42 (dk_at dksJ5_checkInvariants_0 6 rfl rfl)
theorem dJ5_checkInvariants_7 : decode cJ5_checkInvariants 7 = .ok (.getfield 7, 3) := dk_180 0 7 (dk_at dksJ5_checkInvariants_0 7 rfl rfl)
theorem dJ5_checkInvariants_10 : decode cJ5_checkInvariants 10 = .ok (.ifCond .eq 27, 3) := dk_153 0 27 (dk_at dksJ5_checkInvariants_0 10 rfl rfl)
theorem dJ5_checkInvariants_13 : decode cJ5_checkInvariants 13 = .ok (.aload_n 0, 1) := dk_42 (dk_at dksJ5_checkInvariants_0 13 rfl rfl)
theorem dJ5_checkInvariants_14 : decode cJ5_checkInvariants 14 = .ok (.getfield 11, 3) := dk_180 0 11 (dk_at dksJ5_checkInvariants_0 14 rfl rfl)
theorem dJ5_checkInvariants_17 : decode cJ5_checkInvariants 17 = .ok (.aload_n 0, 1) := dk_42 (dk_at dksJ5_checkInvariants_0 17 rfl rfl)
theorem dJ5_checkInvariants_18 : decode cJ5_checkInvariants 18 = .ok (.getfield 7, 3) := dk_180 0 7 (dk_at dksJ5_checkInvariants_0 18 rfl rfl)
theorem dJ5_checkInvariants_21 : decode cJ5_checkInvariants 21 = .ok (.iconst 1, 1) := dk_4 (dk_at dksJ5_checkInvariants_0 21 rfl rfl)
theorem dJ5_checkInvariants_22 : decode cJ5_checkInvariants 22 = .ok (.isub, 1) := dk_100 (dk_at dksJ5_checkInvariants_0 22 rfl rfl)
theorem dJ5_checkInvariants_23 : decode cJ5_checkInvariants 23 = .ok (.laload, 1) := dk_47 (dk_at dksJ5_checkInvariants_0 23 rfl rfl)
theorem dJ5_checkInvariants_24 : decode cJ5_checkInvariants 24 = .ok (.lconst 0, 1) := dk_9 (dk_at dksJ5_checkInvariants_1 0 rfl rfl)
theorem dJ5_checkInvariants_25 : decode cJ5_checkInvariants 25 = .ok (.lcmp, 1) := dk_148 (dk_at dksJ5_checkInvariants_1 1 rfl rfl)
theorem dJ5_checkInvariants_26 : decode cJ5_checkInvariants 26 = .ok (.ifCond .ne 11, 3) := dk_154 0 11 (dk_at dksJ5_checkInvariants_1 2 rfl rfl)
theorem dJ5_checkInvariants_29 : decode cJ5_checkInvariants 29 = .ok (.new 15, 3) := dk_187 0 15 (dk_at dksJ5_checkInvariants_1 5 rfl rfl)
theorem dJ5_checkInvariants_32 : decode cJ5_checkInvariants 32 = .ok (.dup, 1) := dk_89 (dk_at dksJ5_checkInvariants_1 8 rfl rfl)
theorem dJ5_checkInvariants_33 : decode cJ5_checkInvariants 33 = .ok (.invokespecial 17, 3) := dk_183 0 17 (dk_at dksJ5_checkInvariants_1 9 rfl rfl)
theorem dJ5_checkInvariants_36 : decode cJ5_checkInvariants 36 = .ok (.athrow, 1) := dk_191 (dk_at dksJ5_checkInvariants_1 12 rfl rfl)
theorem dJ5_checkInvariants_37 : decode cJ5_checkInvariants 37 = .ok (.getstatic 3, 3) := dk_178 0 3 (dk_at dksJ5_checkInvariants_1 13 rfl rfl)
theorem dJ5_checkInvariants_40 : decode cJ5_checkInvariants 40 = .ok (.ifCond .ne 30, 3) := dk_154 0 30 (dk_at dksJ5_checkInvariants_1 16 rfl rfl)
theorem dJ5_checkInvariants_43 : decode cJ5_checkInvariants 43 = .ok (.aload_n 0, 1) := dk_42 (dk_at dksJ5_checkInvariants_1 19 rfl rfl)
theorem dJ5_checkInvariants_44 : decode cJ5_checkInvariants 44 = .ok (.getfield 7, 3) := dk_180 0 7 (dk_at dksJ5_checkInvariants_1 20 rfl rfl)
theorem dJ5_checkInvariants_47 : decode cJ5_checkInvariants 47 = .ok (.ifCond .lt 15, 3) := dk_155 0 15 (dk_at dksJ5_checkInvariants_2 0 rfl rfl)
theorem dJ5_checkInvariants_50 : decode cJ5_checkInvariants 50 = .ok (.aload_n 0, 1) := dk_42 (dk_at dksJ5_checkInvariants_2 3 rfl rfl)
theorem dJ5_checkInvariants_51 : decode cJ5_checkInvariants 51 = .ok (.getfield 7, 3) := dk_180 0 7 (dk_at dksJ5_checkInvariants_2 4 rfl rfl)
theorem dJ5_checkInvariants_54 : decode cJ5_checkInvariants 54 = .ok (.aload_n 0, 1) := dk_42 (dk_at dksJ5_checkInvariants_2 7 rfl rfl)
theorem dJ5_checkInvariants_55 : decode cJ5_checkInvariants 55 = .ok (.getfield 11, 3) := dk_180 0 11 (dk_at dksJ5_checkInvariants_2 8 rfl rfl)
theorem dJ5_checkInvariants_58 : decode cJ5_checkInvariants 58 = .ok (.arraylength, 1) := dk_190 (dk_at dksJ5_checkInvariants_2 11 rfl rfl)
theorem dJ5_checkInvariants_59 : decode cJ5_checkInvariants 59 = .ok (.if_icmp .le 11, 3) := dk_164 0 11 (dk_at dksJ5_checkInvariants_2 12 rfl rfl)
theorem dJ5_checkInvariants_62 : decode cJ5_checkInvariants 62 = .ok (.new 15, 3) := dk_187 0 15 (dk_at dksJ5_checkInvariants_2 15 rfl rfl)
theorem dJ5_checkInvariants_65 : decode cJ5_checkInvariants 65 = .ok (.dup, 1) := dk_89 (dk_at dksJ5_checkInvariants_2 18 rfl rfl)
theorem dJ5_checkInvariants_66 : decode cJ5_checkInvariants 66 = .ok (.invokespecial 17, 3) := dk_183 0 17 (dk_at dksJ5_checkInvariants_2 19 rfl rfl)
theorem dJ5_checkInvariants_69 : decode cJ5_checkInvariants 69 = .ok (.athrow, 1) := dk_191 (dk_at dksJ5_checkInvariants_2 22 rfl rfl)
theorem dJ5_checkInvariants_70 : decode cJ5_checkInvariants 70 = .ok (.getstatic 3, 3) := dk_178 0 3 (dk_at dksJ5_checkInvariants_3 0 rfl rfl)
theorem dJ5_checkInvariants_73 : decode cJ5_checkInvariants 73 = .ok (.ifCond .ne 37, 3) := dk_154 0 37 (dk_at dksJ5_checkInvariants_3 3 rfl rfl)
theorem dJ5_checkInvariants_76 : decode cJ5_checkInvariants 76 = .ok (.aload_n 0, 1) := dk_42 (dk_at dksJ5_checkInvariants_3 6 rfl rfl)
theorem dJ5_checkInvariants_77 : decode cJ5_checkInvariants 77 = .ok (.getfield 7, 3) := dk_180 0 7 (dk_at dksJ5_checkInvariants_3 7 rfl rfl)
theorem dJ5_checkInvariants_80 : decode cJ5_checkInvariants 80 = .ok (.aload_n 0, 1) := dk_42 (dk_at dksJ5_checkInvariants_3 10 rfl rfl)
theorem dJ5_checkInvariants_81 : decode cJ5_checkInvariants 81 = .ok (.getfield 11, 3) := dk_180 0 11 (dk_at dksJ5_checkInvariants_3 11 rfl rfl)
theorem dJ5_checkInvariants_84 : decode cJ5_checkInvariants 84 = .ok (.arraylength, 1) := dk_190 (dk_at dksJ5_checkInvariants_3 14 rfl rfl)
theorem dJ5_checkInvariants_85 : decode cJ5_checkInvariants 85 = .ok (.if_icmp .eq 25, 3) := dk_159 0 25 (dk_at dksJ5_checkInvariants_3 15 rfl rfl)
theorem dJ5_checkInvariants_88 : decode cJ5_checkInvariants 88 = .ok (.aload_n 0, 1) := dk_42 (dk_at dksJ5_checkInvariants_3 18 rfl rfl)
theorem dJ5_checkInvariants_89 : decode cJ5_checkInvariants 89 = .ok (.getfield 11, 3) := dk_180 0 11 (dk_at dksJ5_checkInvariants_3 19 rfl rfl)
theorem dJ5_checkInvariants_92 : decode cJ5_checkInvariants 92 = .ok (.aload_n 0, 1) := dk_42 (dk_at dksJ5_checkInvariants_3 22 rfl rfl)
theorem dJ5_checkInvariants_93 : decode cJ5_checkInvariants 93 = .ok (.getfield 7, 3) := dk_180 0 7 (dk_at dksJ5_checkInvariants_4 0 rfl rfl)
theorem dJ5_checkInvariants_96 : decode cJ5_checkInvariants 96 = .ok (.laload, 1) := dk_47 (dk_at dksJ5_checkInvariants_4 3 rfl rfl)
theorem dJ5_checkInvariants_97 : decode cJ5_checkInvariants 97 = .ok (.lconst 0, 1) := dk_9 (dk_at dksJ5_checkInvariants_4 4 rfl rfl)
theorem dJ5_checkInvariants_98 : decode cJ5_checkInvariants 98 = .ok (.lcmp, 1) := dk_148 (dk_at dksJ5_checkInvariants_4 5 rfl rfl)
theorem dJ5_checkInvariants_99 : decode cJ5_checkInvariants 99 = .ok (.ifCond .eq 11, 3) := dk_153 0 11 (dk_at dksJ5_checkInvariants_4 6 rfl rfl)
theorem dJ5_checkInvariants_102 : decode cJ5_checkInvariants 102 = .ok (.new 15, 3) := dk_187 0 15 (dk_at dksJ5_checkInvariants_4 9 rfl rfl)
theorem dJ5_checkInvariants_105 : decode cJ5_checkInvariants 105 = .ok (.dup, 1) := dk_89 (dk_at dksJ5_checkInvariants_4 12 rfl rfl)
theorem dJ5_checkInvariants_106 : decode cJ5_checkInvariants 106 = .ok (.invokespecial 17, 3) := dk_183 0 17 (dk_at dksJ5_checkInvariants_4 13 rfl rfl)
theorem dJ5_checkInvariants_109 : decode cJ5_checkInvariants 109 = .ok (.athrow, 1) := dk_191 (dk_at dksJ5_checkInvariants_4 16 rfl rfl)
theorem dJ5_checkInvariants_110 : decode cJ5_checkInvariants 110 = .ok (.return_, 1) := dk_177 (dk_at dksJ5_checkInvariants_4 17 rfl rfl)
abbrev cJ5_set : ByteArray := prog_61_method_19_code
def yJ5_set : MethodName := ⟨RJ5, "set", "(I)V"⟩
def dkwJ5_set_2 : List UInt8 := [10, 27, 121, 129, 80, 42, 182, 0, 56, 177]
abbrev dktJ5_set_2 : List UInt8 := dkwJ5_set_2 ++ []
def dkwJ5_set_1 : List UInt8 := [182, 0, 45, 183, 0, 146, 191, 27, 184, 0, 52, 61, 42, 28, 182, 0, 155, 42, 180, 0, 11, 28, 92, 47]
abbrev dktJ5_set_1 : List UInt8 := dkwJ5_set_1 ++ dktJ5_set_2
def dkwJ5_set_0 : List UInt8 := [27, 156, 0, 30, 187, 0, 142, 89, 187, 0, 33, 89, 183, 0, 35, 18, 153, 182, 0, 38, 27, 182, 0, 42]
abbrev dktJ5_set_0 : List UInt8 := dkwJ5_set_0 ++ dktJ5_set_1
theorem dksJ5_set_0 : cJ5_set.data.toList.drop 0 = dktJ5_set_0 := by decide +kernel
theorem dksJ5_set_1 : cJ5_set.data.toList.drop 24 = dktJ5_set_1 := dk_seg dksJ5_set_0 24 rfl rfl
theorem dksJ5_set_2 : cJ5_set.data.toList.drop 48 = dktJ5_set_2 := dk_seg dksJ5_set_1 24 rfl rfl
theorem dJ5_set_0 : decode cJ5_set 0 = .ok (.iload_n 1, 1) := dk_27 (dk_at dksJ5_set_0 0 rfl rfl)
theorem dJ5_set_1 : decode cJ5_set 1 = .ok (.ifCond .ge 30, 3) := dk_156 0 30 (dk_at dksJ5_set_0 1 rfl rfl)
theorem dJ5_set_4 : decode cJ5_set 4 = .ok (.new 142, 3) := dk_187 0 142 (dk_at dksJ5_set_0 4 rfl rfl)
theorem dJ5_set_7 : decode cJ5_set 7 = .ok (.dup, 1) := dk_89 (dk_at dksJ5_set_0 7 rfl rfl)
theorem dJ5_set_8 : decode cJ5_set 8 = .ok (.new 33, 3) := dk_187 0 33 (dk_at dksJ5_set_0 8 rfl rfl)
theorem dJ5_set_11 : decode cJ5_set 11 = .ok (.dup, 1) := dk_89 (dk_at dksJ5_set_0 11 rfl rfl)
theorem dJ5_set_12 : decode cJ5_set 12 = .ok (.invokespecial 35, 3) := dk_183 0 35 (dk_at dksJ5_set_0 12 rfl rfl)
theorem dJ5_set_15 : decode cJ5_set 15 = .ok (.ldc 153, 2) := dk_18 153 (dk_at dksJ5_set_0 15 rfl rfl)
theorem dJ5_set_17 : decode cJ5_set 17 = .ok (.invokevirtual 38, 3) := dk_182 0 38 (dk_at dksJ5_set_0 17 rfl rfl)
theorem dJ5_set_20 : decode cJ5_set 20 = .ok (.iload_n 1, 1) := dk_27 (dk_at dksJ5_set_0 20 rfl rfl)
theorem dJ5_set_21 : decode cJ5_set 21 = .ok (.invokevirtual 42, 3) := dk_182 0 42 (dk_at dksJ5_set_0 21 rfl rfl)
theorem dJ5_set_24 : decode cJ5_set 24 = .ok (.invokevirtual 45, 3) := dk_182 0 45 (dk_at dksJ5_set_1 0 rfl rfl)
theorem dJ5_set_27 : decode cJ5_set 27 = .ok (.invokespecial 146, 3) := dk_183 0 146 (dk_at dksJ5_set_1 3 rfl rfl)
theorem dJ5_set_30 : decode cJ5_set 30 = .ok (.athrow, 1) := dk_191 (dk_at dksJ5_set_1 6 rfl rfl)
theorem dJ5_set_31 : decode cJ5_set 31 = .ok (.iload_n 1, 1) := dk_27 (dk_at dksJ5_set_1 7 rfl rfl)
theorem dJ5_set_32 : decode cJ5_set 32 = .ok (.invokestatic 52, 3) := dk_184 0 52 (dk_at dksJ5_set_1 8 rfl rfl)
theorem dJ5_set_35 : decode cJ5_set 35 = .ok (.istore_n 2, 1) := dk_61 (dk_at dksJ5_set_1 11 rfl rfl)
theorem dJ5_set_36 : decode cJ5_set 36 = .ok (.aload_n 0, 1) := dk_42 (dk_at dksJ5_set_1 12 rfl rfl)
theorem dJ5_set_37 : decode cJ5_set 37 = .ok (.iload_n 2, 1) := dk_28 (dk_at dksJ5_set_1 13 rfl rfl)
theorem dJ5_set_38 : decode cJ5_set 38 = .ok (.invokevirtual 155, 3) := dk_182 0 155 (dk_at dksJ5_set_1 14 rfl rfl)
theorem dJ5_set_41 : decode cJ5_set 41 = .ok (.aload_n 0, 1) := dk_42 (dk_at dksJ5_set_1 17 rfl rfl)
theorem dJ5_set_42 : decode cJ5_set 42 = .ok (.getfield 11, 3) := dk_180 0 11 (dk_at dksJ5_set_1 18 rfl rfl)
theorem dJ5_set_45 : decode cJ5_set 45 = .ok (.iload_n 2, 1) := dk_28 (dk_at dksJ5_set_1 21 rfl rfl)
theorem dJ5_set_46 : decode cJ5_set 46 = .ok (.dup2, 1) := dk_92 (dk_at dksJ5_set_1 22 rfl rfl)
theorem dJ5_set_47 : decode cJ5_set 47 = .ok (.laload, 1) := dk_47 (dk_at dksJ5_set_1 23 rfl rfl)
theorem dJ5_set_48 : decode cJ5_set 48 = .ok (.lconst 1, 1) := dk_10 (dk_at dksJ5_set_2 0 rfl rfl)
theorem dJ5_set_49 : decode cJ5_set 49 = .ok (.iload_n 1, 1) := dk_27 (dk_at dksJ5_set_2 1 rfl rfl)
theorem dJ5_set_50 : decode cJ5_set 50 = .ok (.lshl, 1) := dk_121 (dk_at dksJ5_set_2 2 rfl rfl)
theorem dJ5_set_51 : decode cJ5_set 51 = .ok (.lor, 1) := dk_129 (dk_at dksJ5_set_2 3 rfl rfl)
theorem dJ5_set_52 : decode cJ5_set 52 = .ok (.lastore, 1) := dk_80 (dk_at dksJ5_set_2 4 rfl rfl)
theorem dJ5_set_53 : decode cJ5_set 53 = .ok (.aload_n 0, 1) := dk_42 (dk_at dksJ5_set_2 5 rfl rfl)
theorem dJ5_set_54 : decode cJ5_set 54 = .ok (.invokevirtual 56, 3) := dk_182 0 56 (dk_at dksJ5_set_2 6 rfl rfl)
theorem dJ5_set_57 : decode cJ5_set 57 = .ok (.return_, 1) := dk_177 (dk_at dksJ5_set_2 9 rfl rfl)
abbrev cJ5_expandTo : ByteArray := prog_61_method_15_code
def yJ5_expandTo : MethodName := ⟨RJ5, "expandTo", "(I)V"⟩
def dkwJ5_expandTo_0 : List UInt8 := [27, 4, 96, 61, 42, 180, 0, 7, 28, 162, 0, 13, 42, 28, 182, 0, 139, 42, 28, 181, 0, 7, 177]
abbrev dktJ5_expandTo_0 : List UInt8 := dkwJ5_expandTo_0 ++ []
theorem dksJ5_expandTo_0 : cJ5_expandTo.data.toList.drop 0 = dktJ5_expandTo_0 := by decide +kernel
theorem dJ5_expandTo_0 : decode cJ5_expandTo 0 = .ok (.iload_n 1, 1) := dk_27 (dk_at dksJ5_expandTo_0 0 rfl rfl)
theorem dJ5_expandTo_1 : decode cJ5_expandTo 1 = .ok (.iconst 1, 1) := dk_4 (dk_at dksJ5_expandTo_0 1 rfl rfl)
theorem dJ5_expandTo_2 : decode cJ5_expandTo 2 = .ok (.iadd, 1) := dk_96 (dk_at dksJ5_expandTo_0 2 rfl rfl)
theorem dJ5_expandTo_3 : decode cJ5_expandTo 3 = .ok (.istore_n 2, 1) := dk_61 (dk_at dksJ5_expandTo_0 3 rfl rfl)
theorem dJ5_expandTo_4 : decode cJ5_expandTo 4 = .ok (.aload_n 0, 1) := dk_42 (dk_at dksJ5_expandTo_0 4 rfl rfl)
theorem dJ5_expandTo_5 : decode cJ5_expandTo 5 = .ok (.getfield 7, 3) := dk_180 0 7 (dk_at dksJ5_expandTo_0 5 rfl rfl)
theorem dJ5_expandTo_8 : decode cJ5_expandTo 8 = .ok (.iload_n 2, 1) := dk_28 (dk_at dksJ5_expandTo_0 8 rfl rfl)
theorem dJ5_expandTo_9 : decode cJ5_expandTo 9 = .ok (.if_icmp .ge 13, 3) := dk_162 0 13 (dk_at dksJ5_expandTo_0 9 rfl rfl)
theorem dJ5_expandTo_12 : decode cJ5_expandTo 12 = .ok (.aload_n 0, 1) := dk_42 (dk_at dksJ5_expandTo_0 12 rfl rfl)
theorem dJ5_expandTo_13 : decode cJ5_expandTo 13 = .ok (.iload_n 2, 1) := dk_28 (dk_at dksJ5_expandTo_0 13 rfl rfl)
theorem dJ5_expandTo_14 : decode cJ5_expandTo 14 = .ok (.invokevirtual 139, 3) := dk_182 0 139 (dk_at dksJ5_expandTo_0 14 rfl rfl)
theorem dJ5_expandTo_17 : decode cJ5_expandTo 17 = .ok (.aload_n 0, 1) := dk_42 (dk_at dksJ5_expandTo_0 17 rfl rfl)
theorem dJ5_expandTo_18 : decode cJ5_expandTo 18 = .ok (.iload_n 2, 1) := dk_28 (dk_at dksJ5_expandTo_0 18 rfl rfl)
theorem dJ5_expandTo_19 : decode cJ5_expandTo 19 = .ok (.putfield 7, 3) := dk_181 0 7 (dk_at dksJ5_expandTo_0 19 rfl rfl)
theorem dJ5_expandTo_22 : decode cJ5_expandTo 22 = .ok (.return_, 1) := dk_177 (dk_at dksJ5_expandTo_0 22 rfl rfl)
abbrev cJ5_ensureCapacity : ByteArray := prog_61_method_14_code
def yJ5_ensureCapacity : MethodName := ⟨RJ5, "ensureCapacity", "(I)V"⟩
def dkwJ5_ensureCapacity_1 : List UInt8 := [180, 0, 11, 28, 184, 0, 59, 181, 0, 11, 42, 3, 181, 0, 24, 177]
abbrev dktJ5_ensureCapacity_1 : List UInt8 := dkwJ5_ensureCapacity_1 ++ []
def dkwJ5_ensureCapacity_0 : List UInt8 := [42, 180, 0, 11, 190, 27, 162, 0, 32, 5, 42, 180, 0, 11, 190, 104, 27, 184, 0, 133, 61, 42, 42]
abbrev dktJ5_ensureCapacity_0 : List UInt8 := dkwJ5_ensureCapacity_0 ++ dktJ5_ensureCapacity_1
theorem dksJ5_ensureCapacity_0 : cJ5_ensureCapacity.data.toList.drop 0 = dktJ5_ensureCapacity_0 := by decide +kernel
theorem dksJ5_ensureCapacity_1 : cJ5_ensureCapacity.data.toList.drop 23 = dktJ5_ensureCapacity_1 := dk_seg dksJ5_ensureCapacity_0 23 rfl rfl
theorem dJ5_ensureCapacity_0 : decode cJ5_ensureCapacity 0 = .ok (.aload_n 0, 1) := dk_42 (dk_at dksJ5_ensureCapacity_0 0 rfl rfl)
theorem dJ5_ensureCapacity_1 : decode cJ5_ensureCapacity 1 = .ok (.getfield 11, 3) := dk_180 0 11 (dk_at dksJ5_ensureCapacity_0 1 rfl rfl)
theorem dJ5_ensureCapacity_4 : decode cJ5_ensureCapacity 4 = .ok (.arraylength, 1) := dk_190 (dk_at dksJ5_ensureCapacity_0 4 rfl rfl)
theorem dJ5_ensureCapacity_5 : decode cJ5_ensureCapacity 5 = .ok (.iload_n 1, 1) := dk_27 (dk_at dksJ5_ensureCapacity_0 5 rfl rfl)
theorem dJ5_ensureCapacity_6 : decode cJ5_ensureCapacity 6 = .ok (.if_icmp .ge 32, 3) := dk_162 0 32 (dk_at dksJ5_ensureCapacity_0 6 rfl rfl)
theorem dJ5_ensureCapacity_9 : decode cJ5_ensureCapacity 9 = .ok (.iconst 2, 1) := dk_5 (dk_at dksJ5_ensureCapacity_0 9 rfl rfl)
theorem dJ5_ensureCapacity_10 : decode cJ5_ensureCapacity 10 = .ok (.aload_n 0, 1) := dk_42 (dk_at dksJ5_ensureCapacity_0 10 rfl rfl)
theorem dJ5_ensureCapacity_11 : decode cJ5_ensureCapacity 11 = .ok (.getfield 11, 3) := dk_180 0 11 (dk_at dksJ5_ensureCapacity_0 11 rfl rfl)
theorem dJ5_ensureCapacity_14 : decode cJ5_ensureCapacity 14 = .ok (.arraylength, 1) := dk_190 (dk_at dksJ5_ensureCapacity_0 14 rfl rfl)
theorem dJ5_ensureCapacity_15 : decode cJ5_ensureCapacity 15 = .ok (.imul, 1) := dk_104 (dk_at dksJ5_ensureCapacity_0 15 rfl rfl)
theorem dJ5_ensureCapacity_16 : decode cJ5_ensureCapacity 16 = .ok (.iload_n 1, 1) := dk_27 (dk_at dksJ5_ensureCapacity_0 16 rfl rfl)
theorem dJ5_ensureCapacity_17 : decode cJ5_ensureCapacity 17 = .ok (.invokestatic 133, 3) := dk_184 0 133 (dk_at dksJ5_ensureCapacity_0 17 rfl rfl)
theorem dJ5_ensureCapacity_20 : decode cJ5_ensureCapacity 20 = .ok (.istore_n 2, 1) := dk_61 (dk_at dksJ5_ensureCapacity_0 20 rfl rfl)
theorem dJ5_ensureCapacity_21 : decode cJ5_ensureCapacity 21 = .ok (.aload_n 0, 1) := dk_42 (dk_at dksJ5_ensureCapacity_0 21 rfl rfl)
theorem dJ5_ensureCapacity_22 : decode cJ5_ensureCapacity 22 = .ok (.aload_n 0, 1) := dk_42 (dk_at dksJ5_ensureCapacity_0 22 rfl rfl)
theorem dJ5_ensureCapacity_23 : decode cJ5_ensureCapacity 23 = .ok (.getfield 11, 3) := dk_180 0 11 (dk_at dksJ5_ensureCapacity_1 0 rfl rfl)
theorem dJ5_ensureCapacity_26 : decode cJ5_ensureCapacity 26 = .ok (.iload_n 2, 1) := dk_28 (dk_at dksJ5_ensureCapacity_1 3 rfl rfl)
theorem dJ5_ensureCapacity_27 : decode cJ5_ensureCapacity 27 = .ok (.invokestatic 59, 3) := dk_184 0 59 (dk_at dksJ5_ensureCapacity_1 4 rfl rfl)
theorem dJ5_ensureCapacity_30 : decode cJ5_ensureCapacity 30 = .ok (.putfield 11, 3) := dk_181 0 11 (dk_at dksJ5_ensureCapacity_1 7 rfl rfl)
theorem dJ5_ensureCapacity_33 : decode cJ5_ensureCapacity 33 = .ok (.aload_n 0, 1) := dk_42 (dk_at dksJ5_ensureCapacity_1 10 rfl rfl)
theorem dJ5_ensureCapacity_34 : decode cJ5_ensureCapacity 34 = .ok (.iconst 0, 1) := dk_3 (dk_at dksJ5_ensureCapacity_1 11 rfl rfl)
theorem dJ5_ensureCapacity_35 : decode cJ5_ensureCapacity 35 = .ok (.putfield 24, 3) := dk_181 0 24 (dk_at dksJ5_ensureCapacity_1 12 rfl rfl)
theorem dJ5_ensureCapacity_38 : decode cJ5_ensureCapacity 38 = .ok (.return_, 1) := dk_177 (dk_at dksJ5_ensureCapacity_1 15 rfl rfl)
abbrev cJ5_cardinality : ByteArray := prog_61_method_35_code
def yJ5_cardinality : MethodName := ⟨RJ5, "cardinality", "()I"⟩
def dkwJ5_cardinality_1 : List UInt8 := [132, 2, 1, 167, 255, 233, 27, 172]
abbrev dktJ5_cardinality_1 : List UInt8 := dkwJ5_cardinality_1 ++ []
def dkwJ5_cardinality_0 : List UInt8 := [3, 60, 3, 61, 28, 42, 180, 0, 7, 162, 0, 21, 27, 42, 180, 0, 11, 28, 47, 184, 0, 196, 96, 60]
abbrev dktJ5_cardinality_0 : List UInt8 := dkwJ5_cardinality_0 ++ dktJ5_cardinality_1
theorem dksJ5_cardinality_0 : cJ5_cardinality.data.toList.drop 0 = dktJ5_cardinality_0 := by decide +kernel
theorem dksJ5_cardinality_1 : cJ5_cardinality.data.toList.drop 24 = dktJ5_cardinality_1 := dk_seg dksJ5_cardinality_0 24 rfl rfl
theorem dJ5_cardinality_0 : decode cJ5_cardinality 0 = .ok (.iconst 0, 1) := dk_3 (dk_at dksJ5_cardinality_0 0 rfl rfl)
theorem dJ5_cardinality_1 : decode cJ5_cardinality 1 = .ok (.istore_n 1, 1) := dk_60 (dk_at dksJ5_cardinality_0 1 rfl rfl)
theorem dJ5_cardinality_2 : decode cJ5_cardinality 2 = .ok (.iconst 0, 1) := dk_3 (dk_at dksJ5_cardinality_0 2 rfl rfl)
theorem dJ5_cardinality_3 : decode cJ5_cardinality 3 = .ok (.istore_n 2, 1) := dk_61 (dk_at dksJ5_cardinality_0 3 rfl rfl)
theorem dJ5_cardinality_4 : decode cJ5_cardinality 4 = .ok (.iload_n 2, 1) := dk_28 (dk_at dksJ5_cardinality_0 4 rfl rfl)
theorem dJ5_cardinality_5 : decode cJ5_cardinality 5 = .ok (.aload_n 0, 1) := dk_42 (dk_at dksJ5_cardinality_0 5 rfl rfl)
theorem dJ5_cardinality_6 : decode cJ5_cardinality 6 = .ok (.getfield 7, 3) := dk_180 0 7 (dk_at dksJ5_cardinality_0 6 rfl rfl)
theorem dJ5_cardinality_9 : decode cJ5_cardinality 9 = .ok (.if_icmp .ge 21, 3) := dk_162 0 21 (dk_at dksJ5_cardinality_0 9 rfl rfl)
theorem dJ5_cardinality_12 : decode cJ5_cardinality 12 = .ok (.iload_n 1, 1) := dk_27 (dk_at dksJ5_cardinality_0 12 rfl rfl)
theorem dJ5_cardinality_13 : decode cJ5_cardinality 13 = .ok (.aload_n 0, 1) := dk_42 (dk_at dksJ5_cardinality_0 13 rfl rfl)
theorem dJ5_cardinality_14 : decode cJ5_cardinality 14 = .ok (.getfield 11, 3) := dk_180 0 11 (dk_at dksJ5_cardinality_0 14 rfl rfl)
theorem dJ5_cardinality_17 : decode cJ5_cardinality 17 = .ok (.iload_n 2, 1) := dk_28 (dk_at dksJ5_cardinality_0 17 rfl rfl)
theorem dJ5_cardinality_18 : decode cJ5_cardinality 18 = .ok (.laload, 1) := dk_47 (dk_at dksJ5_cardinality_0 18 rfl rfl)
theorem dJ5_cardinality_19 : decode cJ5_cardinality 19 = .ok (.invokestatic 196, 3) := dk_184 0 196 (dk_at dksJ5_cardinality_0 19 rfl rfl)
theorem dJ5_cardinality_22 : decode cJ5_cardinality 22 = .ok (.iadd, 1) := dk_96 (dk_at dksJ5_cardinality_0 22 rfl rfl)
theorem dJ5_cardinality_23 : decode cJ5_cardinality 23 = .ok (.istore_n 1, 1) := dk_60 (dk_at dksJ5_cardinality_0 23 rfl rfl)
theorem dJ5_cardinality_24 : decode cJ5_cardinality 24 = .ok (.iinc 2 1, 3) := dk_132 2 1 (dk_at dksJ5_cardinality_1 0 rfl rfl)
theorem dJ5_cardinality_27 : decode cJ5_cardinality 27 = .ok (.goto (-23), 3) := dk_167 255 233 (dk_at dksJ5_cardinality_1 3 rfl rfl)
theorem dJ5_cardinality_30 : decode cJ5_cardinality 30 = .ok (.iload_n 1, 1) := dk_27 (dk_at dksJ5_cardinality_1 6 rfl rfl)
theorem dJ5_cardinality_31 : decode cJ5_cardinality 31 = .ok (.ireturn, 1) := dk_172 (dk_at dksJ5_cardinality_1 7 rfl rfl)
abbrev cJ5_get : ByteArray := prog_61_method_26_code
def yJ5_get : MethodName := ⟨RJ5, "get", "(I)Z"⟩
def dkwJ5_get_2 : List UInt8 := [42, 180, 0, 11, 28, 47, 10, 27, 121, 127, 9, 148, 153, 0, 7, 4, 167, 0, 4, 3, 172]
abbrev dktJ5_get_2 : List UInt8 := dkwJ5_get_2 ++ []
def dkwJ5_get_1 : List UInt8 := [182, 0, 45, 183, 0, 146, 191, 42, 182, 0, 56, 27, 184, 0, 52, 61, 28, 42, 180, 0, 7, 162, 0, 22]
abbrev dktJ5_get_1 : List UInt8 := dkwJ5_get_1 ++ dktJ5_get_2
def dkwJ5_get_0 : List UInt8 := [27, 156, 0, 30, 187, 0, 142, 89, 187, 0, 33, 89, 183, 0, 35, 18, 153, 182, 0, 38, 27, 182, 0, 42]
abbrev dktJ5_get_0 : List UInt8 := dkwJ5_get_0 ++ dktJ5_get_1
theorem dksJ5_get_0 : cJ5_get.data.toList.drop 0 = dktJ5_get_0 := by decide +kernel
theorem dksJ5_get_1 : cJ5_get.data.toList.drop 24 = dktJ5_get_1 := dk_seg dksJ5_get_0 24 rfl rfl
theorem dksJ5_get_2 : cJ5_get.data.toList.drop 48 = dktJ5_get_2 := dk_seg dksJ5_get_1 24 rfl rfl
theorem dJ5_get_0 : decode cJ5_get 0 = .ok (.iload_n 1, 1) := dk_27 (dk_at dksJ5_get_0 0 rfl rfl)
theorem dJ5_get_1 : decode cJ5_get 1 = .ok (.ifCond .ge 30, 3) := dk_156 0 30 (dk_at dksJ5_get_0 1 rfl rfl)
theorem dJ5_get_4 : decode cJ5_get 4 = .ok (.new 142, 3) := dk_187 0 142 (dk_at dksJ5_get_0 4 rfl rfl)
theorem dJ5_get_7 : decode cJ5_get 7 = .ok (.dup, 1) := dk_89 (dk_at dksJ5_get_0 7 rfl rfl)
theorem dJ5_get_8 : decode cJ5_get 8 = .ok (.new 33, 3) := dk_187 0 33 (dk_at dksJ5_get_0 8 rfl rfl)
theorem dJ5_get_11 : decode cJ5_get 11 = .ok (.dup, 1) := dk_89 (dk_at dksJ5_get_0 11 rfl rfl)
theorem dJ5_get_12 : decode cJ5_get 12 = .ok (.invokespecial 35, 3) := dk_183 0 35 (dk_at dksJ5_get_0 12 rfl rfl)
theorem dJ5_get_15 : decode cJ5_get 15 = .ok (.ldc 153, 2) := dk_18 153 (dk_at dksJ5_get_0 15 rfl rfl)
theorem dJ5_get_17 : decode cJ5_get 17 = .ok (.invokevirtual 38, 3) := dk_182 0 38 (dk_at dksJ5_get_0 17 rfl rfl)
theorem dJ5_get_20 : decode cJ5_get 20 = .ok (.iload_n 1, 1) := dk_27 (dk_at dksJ5_get_0 20 rfl rfl)
theorem dJ5_get_21 : decode cJ5_get 21 = .ok (.invokevirtual 42, 3) := dk_182 0 42 (dk_at dksJ5_get_0 21 rfl rfl)
theorem dJ5_get_24 : decode cJ5_get 24 = .ok (.invokevirtual 45, 3) := dk_182 0 45 (dk_at dksJ5_get_1 0 rfl rfl)
theorem dJ5_get_27 : decode cJ5_get 27 = .ok (.invokespecial 146, 3) := dk_183 0 146 (dk_at dksJ5_get_1 3 rfl rfl)
theorem dJ5_get_30 : decode cJ5_get 30 = .ok (.athrow, 1) := dk_191 (dk_at dksJ5_get_1 6 rfl rfl)
theorem dJ5_get_31 : decode cJ5_get 31 = .ok (.aload_n 0, 1) := dk_42 (dk_at dksJ5_get_1 7 rfl rfl)
theorem dJ5_get_32 : decode cJ5_get 32 = .ok (.invokevirtual 56, 3) := dk_182 0 56 (dk_at dksJ5_get_1 8 rfl rfl)
theorem dJ5_get_35 : decode cJ5_get 35 = .ok (.iload_n 1, 1) := dk_27 (dk_at dksJ5_get_1 11 rfl rfl)
theorem dJ5_get_36 : decode cJ5_get 36 = .ok (.invokestatic 52, 3) := dk_184 0 52 (dk_at dksJ5_get_1 12 rfl rfl)
theorem dJ5_get_39 : decode cJ5_get 39 = .ok (.istore_n 2, 1) := dk_61 (dk_at dksJ5_get_1 15 rfl rfl)
theorem dJ5_get_40 : decode cJ5_get 40 = .ok (.iload_n 2, 1) := dk_28 (dk_at dksJ5_get_1 16 rfl rfl)
theorem dJ5_get_41 : decode cJ5_get 41 = .ok (.aload_n 0, 1) := dk_42 (dk_at dksJ5_get_1 17 rfl rfl)
theorem dJ5_get_42 : decode cJ5_get 42 = .ok (.getfield 7, 3) := dk_180 0 7 (dk_at dksJ5_get_1 18 rfl rfl)
theorem dJ5_get_45 : decode cJ5_get 45 = .ok (.if_icmp .ge 22, 3) := dk_162 0 22 (dk_at dksJ5_get_1 21 rfl rfl)
theorem dJ5_get_48 : decode cJ5_get 48 = .ok (.aload_n 0, 1) := dk_42 (dk_at dksJ5_get_2 0 rfl rfl)
theorem dJ5_get_49 : decode cJ5_get 49 = .ok (.getfield 11, 3) := dk_180 0 11 (dk_at dksJ5_get_2 1 rfl rfl)
theorem dJ5_get_52 : decode cJ5_get 52 = .ok (.iload_n 2, 1) := dk_28 (dk_at dksJ5_get_2 4 rfl rfl)
theorem dJ5_get_53 : decode cJ5_get 53 = .ok (.laload, 1) := dk_47 (dk_at dksJ5_get_2 5 rfl rfl)
theorem dJ5_get_54 : decode cJ5_get 54 = .ok (.lconst 1, 1) := dk_10 (dk_at dksJ5_get_2 6 rfl rfl)
theorem dJ5_get_55 : decode cJ5_get 55 = .ok (.iload_n 1, 1) := dk_27 (dk_at dksJ5_get_2 7 rfl rfl)
theorem dJ5_get_56 : decode cJ5_get 56 = .ok (.lshl, 1) := dk_121 (dk_at dksJ5_get_2 8 rfl rfl)
theorem dJ5_get_57 : decode cJ5_get 57 = .ok (.land, 1) := dk_127 (dk_at dksJ5_get_2 9 rfl rfl)
theorem dJ5_get_58 : decode cJ5_get 58 = .ok (.lconst 0, 1) := dk_9 (dk_at dksJ5_get_2 10 rfl rfl)
theorem dJ5_get_59 : decode cJ5_get 59 = .ok (.lcmp, 1) := dk_148 (dk_at dksJ5_get_2 11 rfl rfl)
theorem dJ5_get_60 : decode cJ5_get 60 = .ok (.ifCond .eq 7, 3) := dk_153 0 7 (dk_at dksJ5_get_2 12 rfl rfl)
theorem dJ5_get_63 : decode cJ5_get 63 = .ok (.iconst 1, 1) := dk_4 (dk_at dksJ5_get_2 15 rfl rfl)
theorem dJ5_get_64 : decode cJ5_get 64 = .ok (.goto 4, 3) := dk_167 0 4 (dk_at dksJ5_get_2 16 rfl rfl)
theorem dJ5_get_67 : decode cJ5_get 67 = .ok (.iconst 0, 1) := dk_3 (dk_at dksJ5_get_2 19 rfl rfl)
theorem dJ5_get_68 : decode cJ5_get 68 = .ok (.ireturn, 1) := dk_172 (dk_at dksJ5_get_2 20 rfl rfl)
abbrev cJ5_or : ByteArray := prog_61_method_37_code
def yJ5_or : MethodName := ⟨RJ5, "or", "(Ljava/util/BitSet;)V"⟩
def dkwJ5_or_4 : List UInt8 := [180, 0, 7, 28, 100, 184, 0, 199, 42, 182, 0, 56, 177]
abbrev dktJ5_or_4 : List UInt8 := dkwJ5_or_4 ++ []
def dkwJ5_or_3 : List UInt8 := [167, 255, 233, 28, 43, 180, 0, 7, 162, 0, 22, 43, 180, 0, 11, 28, 42, 180, 0, 11, 28, 42]
abbrev dktJ5_or_3 : List UInt8 := dkwJ5_or_3 ++ dktJ5_or_4
def dkwJ5_or_2 : List UInt8 := [29, 28, 162, 0, 24, 42, 180, 0, 11, 29, 92, 47, 43, 180, 0, 11, 29, 47, 129, 80, 132, 3, 1]
abbrev dktJ5_or_2 : List UInt8 := dkwJ5_or_2 ++ dktJ5_or_3
def dkwJ5_or_1 : List UInt8 := [180, 0, 7, 162, 0, 19, 42, 43, 180, 0, 7, 182, 0, 139, 42, 43, 180, 0, 7, 181, 0, 7, 3, 62]
abbrev dktJ5_or_1 : List UInt8 := dkwJ5_or_1 ++ dktJ5_or_2
def dkwJ5_or_0 : List UInt8 := [42, 43, 166, 0, 4, 177, 42, 180, 0, 7, 43, 180, 0, 7, 184, 0, 193, 61, 42, 180, 0, 7, 43]
abbrev dktJ5_or_0 : List UInt8 := dkwJ5_or_0 ++ dktJ5_or_1
theorem dksJ5_or_0 : cJ5_or.data.toList.drop 0 = dktJ5_or_0 := by decide +kernel
theorem dksJ5_or_1 : cJ5_or.data.toList.drop 23 = dktJ5_or_1 := dk_seg dksJ5_or_0 23 rfl rfl
theorem dksJ5_or_2 : cJ5_or.data.toList.drop 47 = dktJ5_or_2 := dk_seg dksJ5_or_1 24 rfl rfl
theorem dksJ5_or_3 : cJ5_or.data.toList.drop 70 = dktJ5_or_3 := dk_seg dksJ5_or_2 23 rfl rfl
theorem dksJ5_or_4 : cJ5_or.data.toList.drop 92 = dktJ5_or_4 := dk_seg dksJ5_or_3 22 rfl rfl
theorem dJ5_or_0 : decode cJ5_or 0 = .ok (.aload_n 0, 1) := dk_42 (dk_at dksJ5_or_0 0 rfl rfl)
theorem dJ5_or_1 : decode cJ5_or 1 = .ok (.aload_n 1, 1) := dk_43 (dk_at dksJ5_or_0 1 rfl rfl)
theorem dJ5_or_2 : decode cJ5_or 2 = .ok (.if_acmp .ne 4, 3) := dk_166 0 4 (dk_at dksJ5_or_0 2 rfl rfl)
theorem dJ5_or_5 : decode cJ5_or 5 = .ok (.return_, 1) := dk_177 (dk_at dksJ5_or_0 5 rfl rfl)
theorem dJ5_or_6 : decode cJ5_or 6 = .ok (.aload_n 0, 1) := dk_42 (dk_at dksJ5_or_0 6 rfl rfl)
theorem dJ5_or_7 : decode cJ5_or 7 = .ok (.getfield 7, 3) := dk_180 0 7 (dk_at dksJ5_or_0 7 rfl rfl)
theorem dJ5_or_10 : decode cJ5_or 10 = .ok (.aload_n 1, 1) := dk_43 (dk_at dksJ5_or_0 10 rfl rfl)
theorem dJ5_or_11 : decode cJ5_or 11 = .ok (.getfield 7, 3) := dk_180 0 7 (dk_at dksJ5_or_0 11 rfl rfl)
theorem dJ5_or_14 : decode cJ5_or 14 = .ok (.invokestatic 193, 3) := dk_184 0 193 (dk_at dksJ5_or_0 14 rfl rfl)
theorem dJ5_or_17 : decode cJ5_or 17 = .ok (.istore_n 2, 1) := dk_61 (dk_at dksJ5_or_0 17 rfl rfl)
theorem dJ5_or_18 : decode cJ5_or 18 = .ok (.aload_n 0, 1) := dk_42 (dk_at dksJ5_or_0 18 rfl rfl)
theorem dJ5_or_19 : decode cJ5_or 19 = .ok (.getfield 7, 3) := dk_180 0 7 (dk_at dksJ5_or_0 19 rfl rfl)
theorem dJ5_or_22 : decode cJ5_or 22 = .ok (.aload_n 1, 1) := dk_43 (dk_at dksJ5_or_0 22 rfl rfl)
theorem dJ5_or_23 : decode cJ5_or 23 = .ok (.getfield 7, 3) := dk_180 0 7 (dk_at dksJ5_or_1 0 rfl rfl)
theorem dJ5_or_26 : decode cJ5_or 26 = .ok (.if_icmp .ge 19, 3) := dk_162 0 19 (dk_at dksJ5_or_1 3 rfl rfl)
theorem dJ5_or_29 : decode cJ5_or 29 = .ok (.aload_n 0, 1) := dk_42 (dk_at dksJ5_or_1 6 rfl rfl)
theorem dJ5_or_30 : decode cJ5_or 30 = .ok (.aload_n 1, 1) := dk_43 (dk_at dksJ5_or_1 7 rfl rfl)
theorem dJ5_or_31 : decode cJ5_or 31 = .ok (.getfield 7, 3) := dk_180 0 7 (dk_at dksJ5_or_1 8 rfl rfl)
theorem dJ5_or_34 : decode cJ5_or 34 = .ok (.invokevirtual 139, 3) := dk_182 0 139 (dk_at dksJ5_or_1 11 rfl rfl)
theorem dJ5_or_37 : decode cJ5_or 37 = .ok (.aload_n 0, 1) := dk_42 (dk_at dksJ5_or_1 14 rfl rfl)
theorem dJ5_or_38 : decode cJ5_or 38 = .ok (.aload_n 1, 1) := dk_43 (dk_at dksJ5_or_1 15 rfl rfl)
theorem dJ5_or_39 : decode cJ5_or 39 = .ok (.getfield 7, 3) := dk_180 0 7 (dk_at dksJ5_or_1 16 rfl rfl)
theorem dJ5_or_42 : decode cJ5_or 42 = .ok (.putfield 7, 3) := dk_181 0 7 (dk_at dksJ5_or_1 19 rfl rfl)
theorem dJ5_or_45 : decode cJ5_or 45 = .ok (.iconst 0, 1) := dk_3 (dk_at dksJ5_or_1 22 rfl rfl)
theorem dJ5_or_46 : decode cJ5_or 46 = .ok (.istore_n 3, 1) := dk_62 (dk_at dksJ5_or_1 23 rfl rfl)
theorem dJ5_or_47 : decode cJ5_or 47 = .ok (.iload_n 3, 1) := dk_29 (dk_at dksJ5_or_2 0 rfl rfl)
theorem dJ5_or_48 : decode cJ5_or 48 = .ok (.iload_n 2, 1) := dk_28 (dk_at dksJ5_or_2 1 rfl rfl)
theorem dJ5_or_49 : decode cJ5_or 49 = .ok (.if_icmp .ge 24, 3) := dk_162 0 24 (dk_at dksJ5_or_2 2 rfl rfl)
theorem dJ5_or_52 : decode cJ5_or 52 = .ok (.aload_n 0, 1) := dk_42 (dk_at dksJ5_or_2 5 rfl rfl)
theorem dJ5_or_53 : decode cJ5_or 53 = .ok (.getfield 11, 3) := dk_180 0 11 (dk_at dksJ5_or_2 6 rfl rfl)
theorem dJ5_or_56 : decode cJ5_or 56 = .ok (.iload_n 3, 1) := dk_29 (dk_at dksJ5_or_2 9 rfl rfl)
theorem dJ5_or_57 : decode cJ5_or 57 = .ok (.dup2, 1) := dk_92 (dk_at dksJ5_or_2 10 rfl rfl)
theorem dJ5_or_58 : decode cJ5_or 58 = .ok (.laload, 1) := dk_47 (dk_at dksJ5_or_2 11 rfl rfl)
theorem dJ5_or_59 : decode cJ5_or 59 = .ok (.aload_n 1, 1) := dk_43 (dk_at dksJ5_or_2 12 rfl rfl)
theorem dJ5_or_60 : decode cJ5_or 60 = .ok (.getfield 11, 3) := dk_180 0 11 (dk_at dksJ5_or_2 13 rfl rfl)
theorem dJ5_or_63 : decode cJ5_or 63 = .ok (.iload_n 3, 1) := dk_29 (dk_at dksJ5_or_2 16 rfl rfl)
theorem dJ5_or_64 : decode cJ5_or 64 = .ok (.laload, 1) := dk_47 (dk_at dksJ5_or_2 17 rfl rfl)
theorem dJ5_or_65 : decode cJ5_or 65 = .ok (.lor, 1) := dk_129 (dk_at dksJ5_or_2 18 rfl rfl)
theorem dJ5_or_66 : decode cJ5_or 66 = .ok (.lastore, 1) := dk_80 (dk_at dksJ5_or_2 19 rfl rfl)
theorem dJ5_or_67 : decode cJ5_or 67 = .ok (.iinc 3 1, 3) := dk_132 3 1 (dk_at dksJ5_or_2 20 rfl rfl)
theorem dJ5_or_70 : decode cJ5_or 70 = .ok (.goto (-23), 3) := dk_167 255 233 (dk_at dksJ5_or_3 0 rfl rfl)
theorem dJ5_or_73 : decode cJ5_or 73 = .ok (.iload_n 2, 1) := dk_28 (dk_at dksJ5_or_3 3 rfl rfl)
theorem dJ5_or_74 : decode cJ5_or 74 = .ok (.aload_n 1, 1) := dk_43 (dk_at dksJ5_or_3 4 rfl rfl)
theorem dJ5_or_75 : decode cJ5_or 75 = .ok (.getfield 7, 3) := dk_180 0 7 (dk_at dksJ5_or_3 5 rfl rfl)
theorem dJ5_or_78 : decode cJ5_or 78 = .ok (.if_icmp .ge 22, 3) := dk_162 0 22 (dk_at dksJ5_or_3 8 rfl rfl)
theorem dJ5_or_81 : decode cJ5_or 81 = .ok (.aload_n 1, 1) := dk_43 (dk_at dksJ5_or_3 11 rfl rfl)
theorem dJ5_or_82 : decode cJ5_or 82 = .ok (.getfield 11, 3) := dk_180 0 11 (dk_at dksJ5_or_3 12 rfl rfl)
theorem dJ5_or_85 : decode cJ5_or 85 = .ok (.iload_n 2, 1) := dk_28 (dk_at dksJ5_or_3 15 rfl rfl)
theorem dJ5_or_86 : decode cJ5_or 86 = .ok (.aload_n 0, 1) := dk_42 (dk_at dksJ5_or_3 16 rfl rfl)
theorem dJ5_or_87 : decode cJ5_or 87 = .ok (.getfield 11, 3) := dk_180 0 11 (dk_at dksJ5_or_3 17 rfl rfl)
theorem dJ5_or_90 : decode cJ5_or 90 = .ok (.iload_n 2, 1) := dk_28 (dk_at dksJ5_or_3 20 rfl rfl)
theorem dJ5_or_91 : decode cJ5_or 91 = .ok (.aload_n 0, 1) := dk_42 (dk_at dksJ5_or_3 21 rfl rfl)
theorem dJ5_or_92 : decode cJ5_or 92 = .ok (.getfield 7, 3) := dk_180 0 7 (dk_at dksJ5_or_4 0 rfl rfl)
theorem dJ5_or_95 : decode cJ5_or 95 = .ok (.iload_n 2, 1) := dk_28 (dk_at dksJ5_or_4 3 rfl rfl)
theorem dJ5_or_96 : decode cJ5_or 96 = .ok (.isub, 1) := dk_100 (dk_at dksJ5_or_4 4 rfl rfl)
theorem dJ5_or_97 : decode cJ5_or 97 = .ok (.invokestatic 199, 3) := dk_184 0 199 (dk_at dksJ5_or_4 5 rfl rfl)
theorem dJ5_or_100 : decode cJ5_or 100 = .ok (.aload_n 0, 1) := dk_42 (dk_at dksJ5_or_4 8 rfl rfl)
theorem dJ5_or_101 : decode cJ5_or 101 = .ok (.invokevirtual 56, 3) := dk_182 0 56 (dk_at dksJ5_or_4 9 rfl rfl)
theorem dJ5_or_104 : decode cJ5_or 104 = .ok (.return_, 1) := dk_177 (dk_at dksJ5_or_4 12 rfl rfl)
abbrev cJ5_andNot : ByteArray := prog_61_method_39_code
def yJ5_andNot : MethodName := ⟨RJ5, "andNot", "(Ljava/util/BitSet;)V"⟩
def dkwJ5_andNot_2 : List UInt8 := [182, 0, 56, 177]
abbrev dktJ5_andNot_2 : List UInt8 := dkwJ5_andNot_2 ++ []
def dkwJ5_andNot_1 : List UInt8 := [47, 43, 180, 0, 11, 28, 47, 20, 0, 165, 131, 127, 80, 132, 2, 255, 167, 255, 230, 42, 182, 0, 158, 42]
abbrev dktJ5_andNot_1 : List UInt8 := dkwJ5_andNot_1 ++ dktJ5_andNot_2
def dkwJ5_andNot_0 : List UInt8 := [42, 180, 0, 7, 43, 180, 0, 7, 184, 0, 193, 4, 100, 61, 28, 155, 0, 28, 42, 180, 0, 11, 28, 92]
abbrev dktJ5_andNot_0 : List UInt8 := dkwJ5_andNot_0 ++ dktJ5_andNot_1
theorem dksJ5_andNot_0 : cJ5_andNot.data.toList.drop 0 = dktJ5_andNot_0 := by decide +kernel
theorem dksJ5_andNot_1 : cJ5_andNot.data.toList.drop 24 = dktJ5_andNot_1 := dk_seg dksJ5_andNot_0 24 rfl rfl
theorem dksJ5_andNot_2 : cJ5_andNot.data.toList.drop 48 = dktJ5_andNot_2 := dk_seg dksJ5_andNot_1 24 rfl rfl
theorem dJ5_andNot_0 : decode cJ5_andNot 0 = .ok (.aload_n 0, 1) := dk_42 (dk_at dksJ5_andNot_0 0 rfl rfl)
theorem dJ5_andNot_1 : decode cJ5_andNot 1 = .ok (.getfield 7, 3) := dk_180 0 7 (dk_at dksJ5_andNot_0 1 rfl rfl)
theorem dJ5_andNot_4 : decode cJ5_andNot 4 = .ok (.aload_n 1, 1) := dk_43 (dk_at dksJ5_andNot_0 4 rfl rfl)
theorem dJ5_andNot_5 : decode cJ5_andNot 5 = .ok (.getfield 7, 3) := dk_180 0 7 (dk_at dksJ5_andNot_0 5 rfl rfl)
theorem dJ5_andNot_8 : decode cJ5_andNot 8 = .ok (.invokestatic 193, 3) := dk_184 0 193 (dk_at dksJ5_andNot_0 8 rfl rfl)
theorem dJ5_andNot_11 : decode cJ5_andNot 11 = .ok (.iconst 1, 1) := dk_4 (dk_at dksJ5_andNot_0 11 rfl rfl)
theorem dJ5_andNot_12 : decode cJ5_andNot 12 = .ok (.isub, 1) := dk_100 (dk_at dksJ5_andNot_0 12 rfl rfl)
theorem dJ5_andNot_13 : decode cJ5_andNot 13 = .ok (.istore_n 2, 1) := dk_61 (dk_at dksJ5_andNot_0 13 rfl rfl)
theorem dJ5_andNot_14 : decode cJ5_andNot 14 = .ok (.iload_n 2, 1) := dk_28 (dk_at dksJ5_andNot_0 14 rfl rfl)
theorem dJ5_andNot_15 : decode cJ5_andNot 15 = .ok (.ifCond .lt 28, 3) := dk_155 0 28 (dk_at dksJ5_andNot_0 15 rfl rfl)
theorem dJ5_andNot_18 : decode cJ5_andNot 18 = .ok (.aload_n 0, 1) := dk_42 (dk_at dksJ5_andNot_0 18 rfl rfl)
theorem dJ5_andNot_19 : decode cJ5_andNot 19 = .ok (.getfield 11, 3) := dk_180 0 11 (dk_at dksJ5_andNot_0 19 rfl rfl)
theorem dJ5_andNot_22 : decode cJ5_andNot 22 = .ok (.iload_n 2, 1) := dk_28 (dk_at dksJ5_andNot_0 22 rfl rfl)
theorem dJ5_andNot_23 : decode cJ5_andNot 23 = .ok (.dup2, 1) := dk_92 (dk_at dksJ5_andNot_0 23 rfl rfl)
theorem dJ5_andNot_24 : decode cJ5_andNot 24 = .ok (.laload, 1) := dk_47 (dk_at dksJ5_andNot_1 0 rfl rfl)
theorem dJ5_andNot_25 : decode cJ5_andNot 25 = .ok (.aload_n 1, 1) := dk_43 (dk_at dksJ5_andNot_1 1 rfl rfl)
theorem dJ5_andNot_26 : decode cJ5_andNot 26 = .ok (.getfield 11, 3) := dk_180 0 11 (dk_at dksJ5_andNot_1 2 rfl rfl)
theorem dJ5_andNot_29 : decode cJ5_andNot 29 = .ok (.iload_n 2, 1) := dk_28 (dk_at dksJ5_andNot_1 5 rfl rfl)
theorem dJ5_andNot_30 : decode cJ5_andNot 30 = .ok (.laload, 1) := dk_47 (dk_at dksJ5_andNot_1 6 rfl rfl)
theorem dJ5_andNot_31 : decode cJ5_andNot 31 = .ok (.ldc2_w 165, 3) := dk_20 0 165 (dk_at dksJ5_andNot_1 7 rfl rfl)
theorem dJ5_andNot_34 : decode cJ5_andNot 34 = .ok (.lxor, 1) := dk_131 (dk_at dksJ5_andNot_1 10 rfl rfl)
theorem dJ5_andNot_35 : decode cJ5_andNot 35 = .ok (.land, 1) := dk_127 (dk_at dksJ5_andNot_1 11 rfl rfl)
theorem dJ5_andNot_36 : decode cJ5_andNot 36 = .ok (.lastore, 1) := dk_80 (dk_at dksJ5_andNot_1 12 rfl rfl)
theorem dJ5_andNot_37 : decode cJ5_andNot 37 = .ok (.iinc 2 (-1), 3) := dk_132 2 255 (dk_at dksJ5_andNot_1 13 rfl rfl)
theorem dJ5_andNot_40 : decode cJ5_andNot 40 = .ok (.goto (-26), 3) := dk_167 255 230 (dk_at dksJ5_andNot_1 16 rfl rfl)
theorem dJ5_andNot_43 : decode cJ5_andNot 43 = .ok (.aload_n 0, 1) := dk_42 (dk_at dksJ5_andNot_1 19 rfl rfl)
theorem dJ5_andNot_44 : decode cJ5_andNot 44 = .ok (.invokevirtual 158, 3) := dk_182 0 158 (dk_at dksJ5_andNot_1 20 rfl rfl)
theorem dJ5_andNot_47 : decode cJ5_andNot 47 = .ok (.aload_n 0, 1) := dk_42 (dk_at dksJ5_andNot_1 23 rfl rfl)
theorem dJ5_andNot_48 : decode cJ5_andNot 48 = .ok (.invokevirtual 56, 3) := dk_182 0 56 (dk_at dksJ5_andNot_2 0 rfl rfl)
theorem dJ5_andNot_51 : decode cJ5_andNot 51 = .ok (.return_, 1) := dk_177 (dk_at dksJ5_andNot_2 3 rfl rfl)
abbrev cJ5_recalculateWordsInUse : ByteArray := prog_61_method_3_code
def yJ5_recalculateWordsInUse : MethodName := ⟨RJ5, "recalculateWordsInUse", "()V"⟩
def dkwJ5_recalculateWordsInUse_1 : List UInt8 := [167, 0, 9, 132, 1, 255, 167, 255, 235, 42, 27, 4, 96, 181, 0, 7, 177]
abbrev dktJ5_recalculateWordsInUse_1 : List UInt8 := dkwJ5_recalculateWordsInUse_1 ++ []
def dkwJ5_recalculateWordsInUse_0 : List UInt8 := [42, 180, 0, 7, 4, 100, 60, 27, 155, 0, 23, 42, 180, 0, 11, 27, 47, 9, 148, 153, 0, 6]
abbrev dktJ5_recalculateWordsInUse_0 : List UInt8 := dkwJ5_recalculateWordsInUse_0 ++ dktJ5_recalculateWordsInUse_1
theorem dksJ5_recalculateWordsInUse_0 : cJ5_recalculateWordsInUse.data.toList.drop 0 = dktJ5_recalculateWordsInUse_0 := by decide +kernel
theorem dksJ5_recalculateWordsInUse_1 : cJ5_recalculateWordsInUse.data.toList.drop 22 = dktJ5_recalculateWordsInUse_1 := dk_seg dksJ5_recalculateWordsInUse_0 22 rfl rfl
theorem dJ5_recalculateWordsInUse_0 : decode cJ5_recalculateWordsInUse 0 = .ok (.aload_n 0, 1) := dk_42 (dk_at dksJ5_recalculateWordsInUse_0 0 rfl rfl)
theorem dJ5_recalculateWordsInUse_1 : decode cJ5_recalculateWordsInUse 1 = .ok (.getfield 7, 3) := dk_180 0 7 (dk_at dksJ5_recalculateWordsInUse_0 1 rfl rfl)
theorem dJ5_recalculateWordsInUse_4 : decode cJ5_recalculateWordsInUse 4 = .ok (.iconst 1, 1) := dk_4 (dk_at dksJ5_recalculateWordsInUse_0 4 rfl rfl)
theorem dJ5_recalculateWordsInUse_5 : decode cJ5_recalculateWordsInUse 5 = .ok (.isub, 1) := dk_100 (dk_at dksJ5_recalculateWordsInUse_0 5 rfl rfl)
theorem dJ5_recalculateWordsInUse_6 : decode cJ5_recalculateWordsInUse 6 = .ok (.istore_n 1, 1) := dk_60 (dk_at dksJ5_recalculateWordsInUse_0 6 rfl rfl)
theorem dJ5_recalculateWordsInUse_7 : decode cJ5_recalculateWordsInUse 7 = .ok (.iload_n 1, 1) := dk_27 (dk_at dksJ5_recalculateWordsInUse_0 7 rfl rfl)
theorem dJ5_recalculateWordsInUse_8 : decode cJ5_recalculateWordsInUse 8 = .ok (.ifCond .lt 23, 3) := dk_155 0 23 (dk_at dksJ5_recalculateWordsInUse_0 8 rfl rfl)
theorem dJ5_recalculateWordsInUse_11 : decode cJ5_recalculateWordsInUse 11 = .ok (.aload_n 0, 1) := dk_42 (dk_at dksJ5_recalculateWordsInUse_0 11 rfl rfl)
theorem dJ5_recalculateWordsInUse_12 : decode cJ5_recalculateWordsInUse 12 = .ok (.getfield 11, 3) := dk_180 0 11 (dk_at dksJ5_recalculateWordsInUse_0 12 rfl rfl)
theorem dJ5_recalculateWordsInUse_15 : decode cJ5_recalculateWordsInUse 15 = .ok (.iload_n 1, 1) := dk_27 (dk_at dksJ5_recalculateWordsInUse_0 15 rfl rfl)
theorem dJ5_recalculateWordsInUse_16 : decode cJ5_recalculateWordsInUse 16 = .ok (.laload, 1) := dk_47 (dk_at dksJ5_recalculateWordsInUse_0 16 rfl rfl)
theorem dJ5_recalculateWordsInUse_17 : decode cJ5_recalculateWordsInUse 17 = .ok (.lconst 0, 1) := dk_9 (dk_at dksJ5_recalculateWordsInUse_0 17 rfl rfl)
theorem dJ5_recalculateWordsInUse_18 : decode cJ5_recalculateWordsInUse 18 = .ok (.lcmp, 1) := dk_148 (dk_at dksJ5_recalculateWordsInUse_0 18 rfl rfl)
theorem dJ5_recalculateWordsInUse_19 : decode cJ5_recalculateWordsInUse 19 = .ok (.ifCond .eq 6, 3) := dk_153 0 6 (dk_at dksJ5_recalculateWordsInUse_0 19 rfl rfl)
theorem dJ5_recalculateWordsInUse_22 : decode cJ5_recalculateWordsInUse 22 = .ok (.goto 9, 3) := dk_167 0 9 (dk_at dksJ5_recalculateWordsInUse_1 0 rfl rfl)
theorem dJ5_recalculateWordsInUse_25 : decode cJ5_recalculateWordsInUse 25 = .ok (.iinc 1 (-1), 3) := dk_132 1 255 (dk_at dksJ5_recalculateWordsInUse_1 3 rfl rfl)
theorem dJ5_recalculateWordsInUse_28 : decode cJ5_recalculateWordsInUse 28 = .ok (.goto (-21), 3) := dk_167 255 235 (dk_at dksJ5_recalculateWordsInUse_1 6 rfl rfl)
theorem dJ5_recalculateWordsInUse_31 : decode cJ5_recalculateWordsInUse 31 = .ok (.aload_n 0, 1) := dk_42 (dk_at dksJ5_recalculateWordsInUse_1 9 rfl rfl)
theorem dJ5_recalculateWordsInUse_32 : decode cJ5_recalculateWordsInUse 32 = .ok (.iload_n 1, 1) := dk_27 (dk_at dksJ5_recalculateWordsInUse_1 10 rfl rfl)
theorem dJ5_recalculateWordsInUse_33 : decode cJ5_recalculateWordsInUse 33 = .ok (.iconst 1, 1) := dk_4 (dk_at dksJ5_recalculateWordsInUse_1 11 rfl rfl)
theorem dJ5_recalculateWordsInUse_34 : decode cJ5_recalculateWordsInUse 34 = .ok (.iadd, 1) := dk_96 (dk_at dksJ5_recalculateWordsInUse_1 12 rfl rfl)
theorem dJ5_recalculateWordsInUse_35 : decode cJ5_recalculateWordsInUse 35 = .ok (.putfield 7, 3) := dk_181 0 7 (dk_at dksJ5_recalculateWordsInUse_1 13 rfl rfl)
theorem dJ5_recalculateWordsInUse_38 : decode cJ5_recalculateWordsInUse 38 = .ok (.return_, 1) := dk_177 (dk_at dksJ5_recalculateWordsInUse_1 16 rfl rfl)
theorem q84 : (Jvm.Cond.initialized "java/util/BitSet") ∈ lw_all := lw_g (lw_at lw_m1 8 rfl) rfl
theorem q253 : (Jvm.Cond.instantiable "java/util/BitSet" (3 : Nat)) ∈ lw_all := lw_g (lw_at lw_m1 177 rfl) rfl
theorem q255 : (Jvm.Cond.instanceMethod ({ cls := "java/util/BitSet", name := "<init>", desc := "()V" } : Jvm.MethodName)) ∈ lw_all := lw_g (lw_at lw_m1 179 rfl) rfl
theorem q256 : (Jvm.Cond.code ({ cls := "java/util/BitSet", name := "<init>", desc := "()V" } : Jvm.MethodName) prog_61_method_4_code (1 : Nat) (Option.none : Option Jvm.ClassFile.FieldType)) ∈ lw_all := lw_g (lw_at lw_m1 180 rfl) rfl
theorem q257 : (Jvm.Cond.methodLink "java/util/BitSet" (21 : Nat) ({ cls := "java/lang/Object", name := "<init>", desc := "()V" } : Jvm.MethodName)) ∈ lw_all := lw_g (lw_at lw_m1 181 rfl) rfl
theorem q258 : (Jvm.Cond.methodLink "java/util/BitSet" (27 : Nat) ({ cls := "java/util/BitSet", name := "initWords", desc := "(I)V" } : Jvm.MethodName)) ∈ lw_all := lw_g (lw_at lw_m1 182 rfl) rfl
theorem q259 : (Jvm.Cond.privateMethod ({ cls := "java/util/BitSet", name := "initWords", desc := "(I)V" } : Jvm.MethodName)) ∈ lw_tbl := lw_at lw_m1 183 rfl
theorem q260 : (Jvm.Cond.instanceMethod ({ cls := "java/util/BitSet", name := "initWords", desc := "(I)V" } : Jvm.MethodName)) ∈ lw_all := lw_g (lw_at lw_m1 184 rfl) rfl
theorem q261 : (Jvm.Cond.code ({ cls := "java/util/BitSet", name := "initWords", desc := "(I)V" } : Jvm.MethodName) prog_61_method_6_code (2 : Nat) (Option.none : Option Jvm.ClassFile.FieldType)) ∈ lw_all := lw_g (lw_at lw_m1 185 rfl) rfl
theorem q262 : (Jvm.Cond.methodLink "java/util/BitSet" (52 : Nat) ({ cls := "java/util/BitSet", name := "wordIndex", desc := "(I)I" } : Jvm.MethodName)) ∈ lw_all := lw_g (lw_at lw_m1 186 rfl) rfl
theorem q263 : (Jvm.Cond.static ({ cls := "java/util/BitSet", name := "wordIndex", desc := "(I)I" } : Jvm.MethodName)) ∈ lw_all := lw_g (lw_at lw_m1 187 rfl) rfl
theorem q264 : (Jvm.Cond.code ({ cls := "java/util/BitSet", name := "wordIndex", desc := "(I)I" } : Jvm.MethodName) prog_61_method_1_code (1 : Nat) (Option.some Jvm.ClassFile.FieldType.int)) ∈ lw_all := lw_g (lw_at lw_m1 188 rfl) rfl
theorem q265 : (Jvm.Cond.fieldLink "java/util/BitSet" (11 : Nat) "java/util/BitSet" "words" "[J") ∈ lw_all := lw_g (lw_at lw_m1 189 rfl) rfl
theorem q266 : (Jvm.Cond.fieldLink "java/util/BitSet" (7 : Nat) "java/util/BitSet" "wordsInUse" "I") ∈ lw_all := lw_g (lw_at lw_m1 190 rfl) rfl
theorem q267 : (Jvm.Cond.fieldLink "java/util/BitSet" (24 : Nat) "java/util/BitSet" "sizeIsSticky" "Z") ∈ lw_all := lw_g (lw_at lw_m1 191 rfl) rfl
theorem q268 : (Jvm.Cond.lays "java/util/BitSet" "java/util/BitSet" "words" "[J") ∈ lw_all := lw_g (lw_at lw_m1 192 rfl) rfl
theorem q269 : (Jvm.Cond.soleField "java/util/BitSet" "words") ∈ lw_all := lw_g (lw_at lw_m1 193 rfl) rfl
theorem q270 : (Jvm.Cond.lays "java/util/BitSet" "java/util/BitSet" "wordsInUse" "I") ∈ lw_all := lw_g (lw_at lw_m1 194 rfl) rfl
theorem q271 : (Jvm.Cond.soleField "java/util/BitSet" "wordsInUse") ∈ lw_all := lw_g (lw_at lw_m1 195 rfl) rfl
theorem q272 : (Jvm.Cond.lays "java/util/BitSet" "java/util/BitSet" "sizeIsSticky" "Z") ∈ lw_all := lw_g (lw_at lw_m1 196 rfl) rfl
theorem q273 : (Jvm.Cond.soleField "java/util/BitSet" "sizeIsSticky") ∈ lw_all := lw_g (lw_at lw_m1 197 rfl) rfl
theorem q274 : (Jvm.Cond.superclass "java/util/BitSet" "java/lang/Object") ∈ lw_all := lw_g (lw_at lw_m1 198 rfl) rfl
theorem q336 : (Jvm.Cond.instanceMethod ({ cls := "java/util/BitSet", name := "nextSetBit", desc := "(I)I" } : Jvm.MethodName)) ∈ lw_all := lw_g (lw_at lw_m2 20 rfl) rfl
theorem q337 : (Jvm.Cond.selects "java/util/BitSet" ({ cls := "java/util/BitSet", name := "nextSetBit", desc := "(I)I" } : Jvm.MethodName) ({ cls := "java/util/BitSet", name := "nextSetBit", desc := "(I)I" } : Jvm.MethodName)) ∈ lw_all := lw_g (lw_at lw_m2 21 rfl) rfl
theorem q338 : (Jvm.Cond.code ({ cls := "java/util/BitSet", name := "nextSetBit", desc := "(I)I" } : Jvm.MethodName) prog_61_method_28_code (5 : Nat) (Option.some Jvm.ClassFile.FieldType.int)) ∈ lw_all := lw_g (lw_at lw_m2 22 rfl) rfl
theorem q339 : (Jvm.Cond.classLink "java/util/BitSet" (142 : Nat) "java/lang/IndexOutOfBoundsException") ∈ lw_all := lw_g (lw_at lw_m2 23 rfl) rfl
theorem q385 : (Jvm.Cond.classLink "java/util/BitSet" (33 : Nat) "java/lang/StringBuilder") ∈ lw_all := lw_g (lw_at lw_m2 69 rfl) rfl
theorem q387 : (Jvm.Cond.methodLink "java/util/BitSet" (35 : Nat) ({ cls := "java/lang/StringBuilder", name := "<init>", desc := "()V" } : Jvm.MethodName)) ∈ lw_all := lw_g (lw_at lw_m2 71 rfl) rfl
theorem q417 : (Jvm.Cond.stringRef "java/util/BitSet" (144 : Nat) "fromIndex < 0: ") ∈ lw_tbl := lw_at lw_m2 101 rfl
theorem q418 : (Jvm.Cond.methodLink "java/util/BitSet" (38 : Nat) ({ cls := "java/lang/StringBuilder", name := "append", desc := "(Ljava/lang/String;)Ljava/lang/StringBuilder;" } : Jvm.MethodName)) ∈ lw_all := lw_g (lw_at lw_m2 102 rfl) rfl
theorem q538 : (Jvm.Cond.methodLink "java/util/BitSet" (42 : Nat) ({ cls := "java/lang/StringBuilder", name := "append", desc := "(I)Ljava/lang/StringBuilder;" } : Jvm.MethodName)) ∈ lw_all := lw_g (lw_at lw_m2 222 rfl) rfl
theorem q563 : (Jvm.Cond.methodLink "java/util/BitSet" (45 : Nat) ({ cls := "java/lang/StringBuilder", name := "toString", desc := "()Ljava/lang/String;" } : Jvm.MethodName)) ∈ lw_all := lw_g (lw_at lw_m3 7 rfl) rfl
theorem q665 : (Jvm.Cond.methodLink "java/util/BitSet" (146 : Nat) ({ cls := "java/lang/IndexOutOfBoundsException", name := "<init>", desc := "(Ljava/lang/String;)V" } : Jvm.MethodName)) ∈ lw_all := lw_g (lw_at lw_m3 109 rfl) rfl
theorem q671 : (Jvm.Cond.methodLink "java/util/BitSet" (56 : Nat) ({ cls := "java/util/BitSet", name := "checkInvariants", desc := "()V" } : Jvm.MethodName)) ∈ lw_all := lw_g (lw_at lw_m3 115 rfl) rfl
theorem q672 : (Jvm.Cond.privateMethod ({ cls := "java/util/BitSet", name := "checkInvariants", desc := "()V" } : Jvm.MethodName)) ∈ lw_tbl := lw_at lw_m3 116 rfl
theorem q673 : (Jvm.Cond.instanceMethod ({ cls := "java/util/BitSet", name := "checkInvariants", desc := "()V" } : Jvm.MethodName)) ∈ lw_all := lw_g (lw_at lw_m3 117 rfl) rfl
theorem q674 : (Jvm.Cond.code ({ cls := "java/util/BitSet", name := "checkInvariants", desc := "()V" } : Jvm.MethodName) prog_61_method_2_code (1 : Nat) (Option.none : Option Jvm.ClassFile.FieldType)) ∈ lw_all := lw_g (lw_at lw_m3 118 rfl) rfl
theorem q675 : (Jvm.Cond.fieldLink "java/util/BitSet" (3 : Nat) "java/util/BitSet" "$assertionsDisabled" "Z") ∈ lw_all := lw_g (lw_at lw_m3 119 rfl) rfl
theorem q676 : (Jvm.Cond.laysStatic "java/util/BitSet" "$assertionsDisabled" "Z") ∈ lw_tbl := lw_at lw_m3 120 rfl
theorem q677 : (Jvm.Cond.constantLong "java/util/BitSet" (165 : Nat) (-1 : Int64)) ∈ lw_all := lw_g (lw_at lw_m3 121 rfl) rfl
theorem q678 : (Jvm.Cond.methodLink "java/util/BitSet" (182 : Nat) ({ cls := "java/lang/Long", name := "numberOfTrailingZeros", desc := "(J)I" } : Jvm.MethodName)) ∈ lw_all := lw_g (lw_at lw_m3 122 rfl) rfl
theorem q766 : (Jvm.Cond.selects "java/util/BitSet" ({ cls := "java/lang/Object", name := "getClass", desc := "()Ljava/lang/Class;" } : Jvm.MethodName) ({ cls := "java/lang/Object", name := "getClass", desc := "()Ljava/lang/Class;" } : Jvm.MethodName)) ∈ lw_all := lw_g (lw_at lw_m3 210 rfl) rfl
theorem q1056 : (Jvm.Cond.instanceMethod ({ cls := "java/util/BitSet", name := "set", desc := "(I)V" } : Jvm.MethodName)) ∈ lw_all := lw_g (lw_at lw_m5 20 rfl) rfl
theorem q1057 : (Jvm.Cond.selects "java/util/BitSet" ({ cls := "java/util/BitSet", name := "set", desc := "(I)V" } : Jvm.MethodName) ({ cls := "java/util/BitSet", name := "set", desc := "(I)V" } : Jvm.MethodName)) ∈ lw_all := lw_g (lw_at lw_m5 21 rfl) rfl
theorem q1058 : (Jvm.Cond.code ({ cls := "java/util/BitSet", name := "set", desc := "(I)V" } : Jvm.MethodName) prog_61_method_19_code (3 : Nat) (Option.none : Option Jvm.ClassFile.FieldType)) ∈ lw_all := lw_g (lw_at lw_m5 22 rfl) rfl
theorem q1059 : (Jvm.Cond.stringRef "java/util/BitSet" (153 : Nat) "bitIndex < 0: ") ∈ lw_tbl := lw_at lw_m5 23 rfl
theorem q1060 : (Jvm.Cond.methodLink "java/util/BitSet" (155 : Nat) ({ cls := "java/util/BitSet", name := "expandTo", desc := "(I)V" } : Jvm.MethodName)) ∈ lw_all := lw_g (lw_at lw_m5 24 rfl) rfl
theorem q1061 : (Jvm.Cond.privateMethod ({ cls := "java/util/BitSet", name := "expandTo", desc := "(I)V" } : Jvm.MethodName)) ∈ lw_tbl := lw_at lw_m5 25 rfl
theorem q1062 : (Jvm.Cond.instanceMethod ({ cls := "java/util/BitSet", name := "expandTo", desc := "(I)V" } : Jvm.MethodName)) ∈ lw_all := lw_g (lw_at lw_m5 26 rfl) rfl
theorem q1063 : (Jvm.Cond.code ({ cls := "java/util/BitSet", name := "expandTo", desc := "(I)V" } : Jvm.MethodName) prog_61_method_15_code (3 : Nat) (Option.none : Option Jvm.ClassFile.FieldType)) ∈ lw_all := lw_g (lw_at lw_m5 27 rfl) rfl
theorem q1064 : (Jvm.Cond.methodLink "java/util/BitSet" (139 : Nat) ({ cls := "java/util/BitSet", name := "ensureCapacity", desc := "(I)V" } : Jvm.MethodName)) ∈ lw_all := lw_g (lw_at lw_m5 28 rfl) rfl
theorem q1065 : (Jvm.Cond.privateMethod ({ cls := "java/util/BitSet", name := "ensureCapacity", desc := "(I)V" } : Jvm.MethodName)) ∈ lw_tbl := lw_at lw_m5 29 rfl
theorem q1066 : (Jvm.Cond.instanceMethod ({ cls := "java/util/BitSet", name := "ensureCapacity", desc := "(I)V" } : Jvm.MethodName)) ∈ lw_all := lw_g (lw_at lw_m5 30 rfl) rfl
theorem q1067 : (Jvm.Cond.code ({ cls := "java/util/BitSet", name := "ensureCapacity", desc := "(I)V" } : Jvm.MethodName) prog_61_method_14_code (3 : Nat) (Option.none : Option Jvm.ClassFile.FieldType)) ∈ lw_all := lw_g (lw_at lw_m5 31 rfl) rfl
theorem q1068 : (Jvm.Cond.methodLink "java/util/BitSet" (133 : Nat) ({ cls := "java/lang/Math", name := "max", desc := "(II)I" } : Jvm.MethodName)) ∈ lw_all := lw_g (lw_at lw_m5 32 rfl) rfl
theorem q1069 : (Jvm.Cond.methodLink "java/util/BitSet" (59 : Nat) ({ cls := "java/util/Arrays", name := "copyOf", desc := "([JI)[J" } : Jvm.MethodName)) ∈ lw_all := lw_g (lw_at lw_m5 33 rfl) rfl
theorem q1078 : (Jvm.Cond.instanceMethod ({ cls := "java/util/BitSet", name := "cardinality", desc := "()I" } : Jvm.MethodName)) ∈ lw_all := lw_g (lw_at lw_m5 42 rfl) rfl
theorem q1079 : (Jvm.Cond.selects "java/util/BitSet" ({ cls := "java/util/BitSet", name := "cardinality", desc := "()I" } : Jvm.MethodName) ({ cls := "java/util/BitSet", name := "cardinality", desc := "()I" } : Jvm.MethodName)) ∈ lw_all := lw_g (lw_at lw_m5 43 rfl) rfl
theorem q1080 : (Jvm.Cond.code ({ cls := "java/util/BitSet", name := "cardinality", desc := "()I" } : Jvm.MethodName) prog_61_method_35_code (3 : Nat) (Option.some Jvm.ClassFile.FieldType.int)) ∈ lw_all := lw_g (lw_at lw_m5 44 rfl) rfl
theorem q1081 : (Jvm.Cond.methodLink "java/util/BitSet" (196 : Nat) ({ cls := "java/lang/Long", name := "bitCount", desc := "(J)I" } : Jvm.MethodName)) ∈ lw_all := lw_g (lw_at lw_m5 45 rfl) rfl
theorem q1110 : (Jvm.Cond.instanceMethod ({ cls := "java/util/BitSet", name := "get", desc := "(I)Z" } : Jvm.MethodName)) ∈ lw_all := lw_g (lw_at lw_m5 74 rfl) rfl
theorem q1111 : (Jvm.Cond.selects "java/util/BitSet" ({ cls := "java/util/BitSet", name := "get", desc := "(I)Z" } : Jvm.MethodName) ({ cls := "java/util/BitSet", name := "get", desc := "(I)Z" } : Jvm.MethodName)) ∈ lw_all := lw_g (lw_at lw_m5 75 rfl) rfl
theorem q1112 : (Jvm.Cond.code ({ cls := "java/util/BitSet", name := "get", desc := "(I)Z" } : Jvm.MethodName) prog_61_method_26_code (3 : Nat) (Option.some Jvm.ClassFile.FieldType.boolean)) ∈ lw_all := lw_g (lw_at lw_m5 76 rfl) rfl
theorem q2018 : (Jvm.Cond.instanceMethod ({ cls := "java/util/BitSet", name := "or", desc := "(Ljava/util/BitSet;)V" } : Jvm.MethodName)) ∈ lw_all := lw_g (lw_at lw_m9 22 rfl) rfl
theorem q2019 : (Jvm.Cond.selects "java/util/BitSet" ({ cls := "java/util/BitSet", name := "or", desc := "(Ljava/util/BitSet;)V" } : Jvm.MethodName) ({ cls := "java/util/BitSet", name := "or", desc := "(Ljava/util/BitSet;)V" } : Jvm.MethodName)) ∈ lw_all := lw_g (lw_at lw_m9 23 rfl) rfl
theorem q2020 : (Jvm.Cond.code ({ cls := "java/util/BitSet", name := "or", desc := "(Ljava/util/BitSet;)V" } : Jvm.MethodName) prog_61_method_37_code (4 : Nat) (Option.none : Option Jvm.ClassFile.FieldType)) ∈ lw_all := lw_g (lw_at lw_m9 24 rfl) rfl
theorem q2021 : (Jvm.Cond.methodLink "java/util/BitSet" (193 : Nat) ({ cls := "java/lang/Math", name := "min", desc := "(II)I" } : Jvm.MethodName)) ∈ lw_all := lw_g (lw_at lw_m9 25 rfl) rfl
theorem q2022 : (Jvm.Cond.methodLink "java/util/BitSet" (199 : Nat) ({ cls := "java/lang/System", name := "arraycopy", desc := "(Ljava/lang/Object;ILjava/lang/Object;II)V" } : Jvm.MethodName)) ∈ lw_all := lw_g (lw_at lw_m9 26 rfl) rfl
theorem q2980 : (Jvm.Cond.instanceMethod ({ cls := "java/util/BitSet", name := "andNot", desc := "(Ljava/util/BitSet;)V" } : Jvm.MethodName)) ∈ lw_all := lw_g (lw_at lw_m13 24 rfl) rfl
theorem q2981 : (Jvm.Cond.selects "java/util/BitSet" ({ cls := "java/util/BitSet", name := "andNot", desc := "(Ljava/util/BitSet;)V" } : Jvm.MethodName) ({ cls := "java/util/BitSet", name := "andNot", desc := "(Ljava/util/BitSet;)V" } : Jvm.MethodName)) ∈ lw_all := lw_g (lw_at lw_m13 25 rfl) rfl
theorem q2982 : (Jvm.Cond.code ({ cls := "java/util/BitSet", name := "andNot", desc := "(Ljava/util/BitSet;)V" } : Jvm.MethodName) prog_61_method_39_code (3 : Nat) (Option.none : Option Jvm.ClassFile.FieldType)) ∈ lw_all := lw_g (lw_at lw_m13 26 rfl) rfl
theorem q2983 : (Jvm.Cond.methodLink "java/util/BitSet" (158 : Nat) ({ cls := "java/util/BitSet", name := "recalculateWordsInUse", desc := "()V" } : Jvm.MethodName)) ∈ lw_all := lw_g (lw_at lw_m13 27 rfl) rfl
theorem q2984 : (Jvm.Cond.privateMethod ({ cls := "java/util/BitSet", name := "recalculateWordsInUse", desc := "()V" } : Jvm.MethodName)) ∈ lw_tbl := lw_at lw_m13 28 rfl
theorem q2985 : (Jvm.Cond.instanceMethod ({ cls := "java/util/BitSet", name := "recalculateWordsInUse", desc := "()V" } : Jvm.MethodName)) ∈ lw_all := lw_g (lw_at lw_m13 29 rfl) rfl
theorem q2986 : (Jvm.Cond.code ({ cls := "java/util/BitSet", name := "recalculateWordsInUse", desc := "()V" } : Jvm.MethodName) prog_61_method_3_code (2 : Nat) (Option.none : Option Jvm.ClassFile.FieldType)) ∈ lw_all := lw_g (lw_at lw_m13 30 rfl) rfl
theorem q3682 : (Jvm.Cond.castable "java/util/BitSet" "java/lang/Object") ∈ lw_tbl := lw_at lw_m16 6 rfl
theorem in_J5 : ∀ w ∈ wsJ50, w ∈ lw_all := lw_in wsJ50 [268, 270, 272] (by decide +kernel) (by decide +kernel)
/-! java/lang/Throwable -/
def RJ6 : String := "java/lang/Throwable"
def TJ6 : u_T := fun k => match k with
  | 0 => ("java/lang/Throwable", "cause", "Ljava/lang/Throwable;", false)
  | 1 => ("java/lang/Throwable", "stackTrace", "[Ljava/lang/StackTraceElement;", false)
  | 2 => ("java/lang/Throwable", "suppressedExceptions", "Ljava/util/List;", false)
  | 3 => ("java/lang/Throwable", "detailMessage", "Ljava/lang/String;", false)
  | _ => ("java/lang/Throwable", "backtrace", "Ljava/lang/Object;", false)
def tyJ6 : Nat → FieldType := fun k => match k with
  | 0 => .object "java/lang/Throwable"
  | 1 => .array (.object "java/lang/StackTraceElement")
  | 2 => .object "java/util/List"
  | 3 => .object "java/lang/String"
  | _ => .object "java/lang/Object"
abbrev wsJ60 : List Cond := u_ws RJ6 TJ6 5
theorem nmJ6 : ∀ a, a < 5 → ∀ b, b < 5 → a ≠ b → (TJ6 a).2.1 ≠ (TJ6 b).2.1 := by decide +kernel
theorem tyJ6_ok : ∀ k, k < 5 → parseFieldDescriptor (TJ6 k).2.2.1 = some (tyJ6 k) := by decide +kernel
abbrev cJ6_init : ByteArray := prog_50_method_1_code
def yJ6_init : MethodName := ⟨RJ6, "<init>", "()V"⟩
def dkwJ6_init_1 : List UInt8 := [182, 0, 27, 87, 177]
abbrev dktJ6_init_1 : List UInt8 := dkwJ6_init_1 ++ []
def dkwJ6_init_0 : List UInt8 := [42, 183, 0, 1, 42, 42, 181, 0, 7, 42, 178, 0, 13, 181, 0, 17, 42, 178, 0, 20, 181, 0, 24, 42]
abbrev dktJ6_init_0 : List UInt8 := dkwJ6_init_0 ++ dktJ6_init_1
theorem dksJ6_init_0 : cJ6_init.data.toList.drop 0 = dktJ6_init_0 := by decide +kernel
theorem dksJ6_init_1 : cJ6_init.data.toList.drop 24 = dktJ6_init_1 := dk_seg dksJ6_init_0 24 rfl rfl
theorem dJ6_init_0 : decode cJ6_init 0 = .ok (.aload_n 0, 1) := dk_42 (dk_at dksJ6_init_0 0 rfl rfl)
theorem dJ6_init_1 : decode cJ6_init 1 = .ok (.invokespecial 1, 3) := dk_183 0 1 (dk_at dksJ6_init_0 1 rfl rfl)
theorem dJ6_init_4 : decode cJ6_init 4 = .ok (.aload_n 0, 1) := dk_42 (dk_at dksJ6_init_0 4 rfl rfl)
theorem dJ6_init_5 : decode cJ6_init 5 = .ok (.aload_n 0, 1) := dk_42 (dk_at dksJ6_init_0 5 rfl rfl)
theorem dJ6_init_6 : decode cJ6_init 6 = .ok (.putfield 7, 3) := dk_181 0 7 (dk_at dksJ6_init_0 6 rfl rfl)
theorem dJ6_init_9 : decode cJ6_init 9 = .ok (.aload_n 0, 1) := dk_42 (dk_at dksJ6_init_0 9 rfl rfl)
theorem dJ6_init_10 : decode cJ6_init 10 = .ok (.getstatic 13, 3) := dk_178 0 13 (dk_at dksJ6_init_0 10 rfl rfl)
theorem dJ6_init_13 : decode cJ6_init 13 = .ok (.putfield 17, 3) := dk_181 0 17 (dk_at dksJ6_init_0 13 rfl rfl)
theorem dJ6_init_16 : decode cJ6_init 16 = .ok (.aload_n 0, 1) := dk_42 (dk_at dksJ6_init_0 16 rfl rfl)
theorem dJ6_init_17 : decode cJ6_init 17 = .ok (.getstatic 20, 3) := dk_178 0 20 (dk_at dksJ6_init_0 17 rfl rfl)
theorem dJ6_init_20 : decode cJ6_init 20 = .ok (.putfield 24, 3) := dk_181 0 24 (dk_at dksJ6_init_0 20 rfl rfl)
theorem dJ6_init_23 : decode cJ6_init 23 = .ok (.aload_n 0, 1) := dk_42 (dk_at dksJ6_init_0 23 rfl rfl)
theorem dJ6_init_24 : decode cJ6_init 24 = .ok (.invokevirtual 27, 3) := dk_182 0 27 (dk_at dksJ6_init_1 0 rfl rfl)
theorem dJ6_init_27 : decode cJ6_init 27 = .ok (.pop, 1) := dk_87 (dk_at dksJ6_init_1 3 rfl rfl)
theorem dJ6_init_28 : decode cJ6_init 28 = .ok (.return_, 1) := dk_177 (dk_at dksJ6_init_1 4 rfl rfl)
abbrev cJ6_init_2 : ByteArray := prog_50_method_2_code
def yJ6_init_2 : MethodName := ⟨RJ6, "<init>", "(Ljava/lang/String;)V"⟩
def dkwJ6_init_2_1 : List UInt8 := [182, 0, 27, 87, 42, 43, 181, 0, 31, 177]
abbrev dktJ6_init_2_1 : List UInt8 := dkwJ6_init_2_1 ++ []
def dkwJ6_init_2_0 : List UInt8 := [42, 183, 0, 1, 42, 42, 181, 0, 7, 42, 178, 0, 13, 181, 0, 17, 42, 178, 0, 20, 181, 0, 24, 42]
abbrev dktJ6_init_2_0 : List UInt8 := dkwJ6_init_2_0 ++ dktJ6_init_2_1
theorem dksJ6_init_2_0 : cJ6_init_2.data.toList.drop 0 = dktJ6_init_2_0 := by decide +kernel
theorem dksJ6_init_2_1 : cJ6_init_2.data.toList.drop 24 = dktJ6_init_2_1 := dk_seg dksJ6_init_2_0 24 rfl rfl
theorem dJ6_init_2_0 : decode cJ6_init_2 0 = .ok (.aload_n 0, 1) := dk_42 (dk_at dksJ6_init_2_0 0 rfl rfl)
theorem dJ6_init_2_1 : decode cJ6_init_2 1 = .ok (.invokespecial 1, 3) := dk_183 0 1 (dk_at dksJ6_init_2_0 1 rfl rfl)
theorem dJ6_init_2_4 : decode cJ6_init_2 4 = .ok (.aload_n 0, 1) := dk_42 (dk_at dksJ6_init_2_0 4 rfl rfl)
theorem dJ6_init_2_5 : decode cJ6_init_2 5 = .ok (.aload_n 0, 1) := dk_42 (dk_at dksJ6_init_2_0 5 rfl rfl)
theorem dJ6_init_2_6 : decode cJ6_init_2 6 = .ok (.putfield 7, 3) := dk_181 0 7 (dk_at dksJ6_init_2_0 6 rfl rfl)
theorem dJ6_init_2_9 : decode cJ6_init_2 9 = .ok (.aload_n 0, 1) := dk_42 (dk_at dksJ6_init_2_0 9 rfl rfl)
theorem dJ6_init_2_10 : decode cJ6_init_2 10 = .ok (.getstatic 13, 3) := dk_178 0 13 (dk_at dksJ6_init_2_0 10 rfl rfl)
theorem dJ6_init_2_13 : decode cJ6_init_2 13 = .ok (.putfield 17, 3) := dk_181 0 17 (dk_at dksJ6_init_2_0 13 rfl rfl)
theorem dJ6_init_2_16 : decode cJ6_init_2 16 = .ok (.aload_n 0, 1) := dk_42 (dk_at dksJ6_init_2_0 16 rfl rfl)
theorem dJ6_init_2_17 : decode cJ6_init_2 17 = .ok (.getstatic 20, 3) := dk_178 0 20 (dk_at dksJ6_init_2_0 17 rfl rfl)
theorem dJ6_init_2_20 : decode cJ6_init_2 20 = .ok (.putfield 24, 3) := dk_181 0 24 (dk_at dksJ6_init_2_0 20 rfl rfl)
theorem dJ6_init_2_23 : decode cJ6_init_2 23 = .ok (.aload_n 0, 1) := dk_42 (dk_at dksJ6_init_2_0 23 rfl rfl)
theorem dJ6_init_2_24 : decode cJ6_init_2 24 = .ok (.invokevirtual 27, 3) := dk_182 0 27 (dk_at dksJ6_init_2_1 0 rfl rfl)
theorem dJ6_init_2_27 : decode cJ6_init_2 27 = .ok (.pop, 1) := dk_87 (dk_at dksJ6_init_2_1 3 rfl rfl)
theorem dJ6_init_2_28 : decode cJ6_init_2 28 = .ok (.aload_n 0, 1) := dk_42 (dk_at dksJ6_init_2_1 4 rfl rfl)
theorem dJ6_init_2_29 : decode cJ6_init_2 29 = .ok (.aload_n 1, 1) := dk_43 (dk_at dksJ6_init_2_1 5 rfl rfl)
theorem dJ6_init_2_30 : decode cJ6_init_2 30 = .ok (.putfield 31, 3) := dk_181 0 31 (dk_at dksJ6_init_2_1 6 rfl rfl)
theorem dJ6_init_2_33 : decode cJ6_init_2 33 = .ok (.return_, 1) := dk_177 (dk_at dksJ6_init_2_1 9 rfl rfl)
theorem q86 : (Jvm.Cond.initialized "java/lang/Throwable") ∈ lw_all := lw_g (lw_at lw_m1 10 rfl) rfl
theorem q346 : (Jvm.Cond.declares ({ cls := "java/lang/Throwable", name := "<init>", desc := "()V" } : Jvm.MethodName)) ∈ lw_tbl := lw_at lw_m2 30 rfl
theorem q347 : (Jvm.Cond.declares ({ cls := "java/lang/Throwable", name := "<init>", desc := "(Ljava/lang/String;)V" } : Jvm.MethodName)) ∈ lw_tbl := lw_at lw_m2 31 rfl
theorem q351 : (Jvm.Cond.lays "java/lang/Throwable" "java/lang/Throwable" "cause" "Ljava/lang/Throwable;") ∈ lw_all := lw_g (lw_at lw_m2 35 rfl) rfl
theorem q353 : (Jvm.Cond.lays "java/lang/Throwable" "java/lang/Throwable" "stackTrace" "[Ljava/lang/StackTraceElement;") ∈ lw_all := lw_g (lw_at lw_m2 37 rfl) rfl
theorem q355 : (Jvm.Cond.lays "java/lang/Throwable" "java/lang/Throwable" "suppressedExceptions" "Ljava/util/List;") ∈ lw_all := lw_g (lw_at lw_m2 39 rfl) rfl
theorem q357 : (Jvm.Cond.lays "java/lang/Throwable" "java/lang/Throwable" "detailMessage" "Ljava/lang/String;") ∈ lw_all := lw_g (lw_at lw_m2 41 rfl) rfl
theorem q359 : (Jvm.Cond.lays "java/lang/Throwable" "java/lang/Throwable" "backtrace" "Ljava/lang/Object;") ∈ lw_all := lw_g (lw_at lw_m2 43 rfl) rfl
theorem q360 : (Jvm.Cond.fieldLink "java/lang/Throwable" (198 : Nat) "java/lang/Throwable" "backtrace" "Ljava/lang/Object;") ∈ lw_all := lw_g (lw_at lw_m2 44 rfl) rfl
theorem q361 : (Jvm.Cond.superclass "java/lang/Throwable" "java/lang/Object") ∈ lw_all := lw_g (lw_at lw_m2 45 rfl) rfl
theorem q362 : (Jvm.Cond.instanceMethod ({ cls := "java/lang/Throwable", name := "<init>", desc := "()V" } : Jvm.MethodName)) ∈ lw_all := lw_g (lw_at lw_m2 46 rfl) rfl
theorem q363 : (Jvm.Cond.code ({ cls := "java/lang/Throwable", name := "<init>", desc := "()V" } : Jvm.MethodName) prog_50_method_1_code (1 : Nat) (Option.none : Option Jvm.ClassFile.FieldType)) ∈ lw_all := lw_g (lw_at lw_m2 47 rfl) rfl
theorem q364 : (Jvm.Cond.methodLink "java/lang/Throwable" (1 : Nat) ({ cls := "java/lang/Object", name := "<init>", desc := "()V" } : Jvm.MethodName)) ∈ lw_all := lw_g (lw_at lw_m2 48 rfl) rfl
theorem q365 : (Jvm.Cond.fieldLink "java/lang/Throwable" (13 : Nat) "java/lang/Throwable" "UNASSIGNED_STACK" "[Ljava/lang/StackTraceElement;") ∈ lw_all := lw_g (lw_at lw_m2 49 rfl) rfl
theorem q366 : (Jvm.Cond.laysStatic "java/lang/Throwable" "UNASSIGNED_STACK" "[Ljava/lang/StackTraceElement;") ∈ lw_tbl := lw_at lw_m2 50 rfl
theorem q367 : (Jvm.Cond.fieldLink "java/lang/Throwable" (20 : Nat) "java/lang/Throwable" "SUPPRESSED_SENTINEL" "Ljava/util/List;") ∈ lw_all := lw_g (lw_at lw_m2 51 rfl) rfl
theorem q368 : (Jvm.Cond.laysStatic "java/lang/Throwable" "SUPPRESSED_SENTINEL" "Ljava/util/List;") ∈ lw_tbl := lw_at lw_m2 52 rfl
theorem q369 : (Jvm.Cond.methodLink "java/lang/Throwable" (27 : Nat) ({ cls := "java/lang/Throwable", name := "fillInStackTrace", desc := "()Ljava/lang/Throwable;" } : Jvm.MethodName)) ∈ lw_all := lw_g (lw_at lw_m2 53 rfl) rfl
theorem q370 : (Jvm.Cond.instanceMethod ({ cls := "java/lang/Throwable", name := "fillInStackTrace", desc := "()Ljava/lang/Throwable;" } : Jvm.MethodName)) ∈ lw_all := lw_g (lw_at lw_m2 54 rfl) rfl
theorem q371 : (Jvm.Cond.sameMethod "java/lang/Throwable" "java/lang/Throwable" "fillInStackTrace" "()Ljava/lang/Throwable;") ∈ lw_all := lw_g (lw_at lw_m2 55 rfl) rfl
theorem q379 : (Jvm.Cond.codeSync ({ cls := "java/lang/Throwable", name := "fillInStackTrace", desc := "()Ljava/lang/Throwable;" } : Jvm.MethodName) prog_50_method_18_code (1 : Nat) (Option.some (Jvm.ClassFile.FieldType.object "java/lang/Throwable"))) ∈ lw_all := lw_g (lw_at lw_m2 63 rfl) rfl
theorem q380 : (Jvm.Cond.methodLink "java/lang/Throwable" (202 : Nat) ({ cls := "java/lang/Throwable", name := "fillInStackTrace", desc := "(I)Ljava/lang/Throwable;" } : Jvm.MethodName)) ∈ lw_all := lw_g (lw_at lw_m2 64 rfl) rfl
theorem q381 : (Jvm.Cond.privateMethod ({ cls := "java/lang/Throwable", name := "fillInStackTrace", desc := "(I)Ljava/lang/Throwable;" } : Jvm.MethodName)) ∈ lw_tbl := lw_at lw_m2 65 rfl
theorem q382 : (Jvm.Cond.instanceMethod ({ cls := "java/lang/Throwable", name := "fillInStackTrace", desc := "(I)Ljava/lang/Throwable;" } : Jvm.MethodName)) ∈ lw_all := lw_g (lw_at lw_m2 66 rfl) rfl
theorem q383 : (Jvm.Cond.instantiable "java/lang/Throwable" (6 : Nat)) ∈ lw_all := lw_g (lw_at lw_m2 67 rfl) rfl
theorem q384 : (Jvm.Cond.native ({ cls := "java/lang/Throwable", name := "fillInStackTrace", desc := "(I)Ljava/lang/Throwable;" } : Jvm.MethodName)) ∈ lw_all := lw_g (lw_at lw_m2 68 rfl) rfl
theorem q624 : (Jvm.Cond.instanceMethod ({ cls := "java/lang/Throwable", name := "<init>", desc := "(Ljava/lang/String;)V" } : Jvm.MethodName)) ∈ lw_all := lw_g (lw_at lw_m3 68 rfl) rfl
theorem q625 : (Jvm.Cond.code ({ cls := "java/lang/Throwable", name := "<init>", desc := "(Ljava/lang/String;)V" } : Jvm.MethodName) prog_50_method_2_code (2 : Nat) (Option.none : Option Jvm.ClassFile.FieldType)) ∈ lw_all := lw_g (lw_at lw_m3 69 rfl) rfl
theorem q626 : (Jvm.Cond.fieldLink "java/lang/Throwable" (198 : Nat) "java/lang/Throwable" "backtrace" "Ljava/lang/Object;") ∈ lw_all := lw_g (lw_at lw_m3 70 rfl) rfl
theorem q627 : (Jvm.Cond.fieldLink "java/lang/Throwable" (31 : Nat) "java/lang/Throwable" "detailMessage" "Ljava/lang/String;") ∈ lw_all := lw_g (lw_at lw_m3 71 rfl) rfl
theorem q628 : (Jvm.Cond.fieldLink "java/lang/Throwable" (7 : Nat) "java/lang/Throwable" "cause" "Ljava/lang/Throwable;") ∈ lw_all := lw_g (lw_at lw_m3 72 rfl) rfl
theorem q629 : (Jvm.Cond.fieldLink "java/lang/Throwable" (17 : Nat) "java/lang/Throwable" "stackTrace" "[Ljava/lang/StackTraceElement;") ∈ lw_all := lw_g (lw_at lw_m3 73 rfl) rfl
theorem q630 : (Jvm.Cond.fieldLink "java/lang/Throwable" (24 : Nat) "java/lang/Throwable" "suppressedExceptions" "Ljava/util/List;") ∈ lw_all := lw_g (lw_at lw_m3 74 rfl) rfl
theorem q631 : (Jvm.Cond.soleField "java/lang/Throwable" "backtrace") ∈ lw_all := lw_g (lw_at lw_m3 75 rfl) rfl
theorem q632 : (Jvm.Cond.soleField "java/lang/Throwable" "detailMessage") ∈ lw_all := lw_g (lw_at lw_m3 76 rfl) rfl
theorem q633 : (Jvm.Cond.soleField "java/lang/Throwable" "cause") ∈ lw_all := lw_g (lw_at lw_m3 77 rfl) rfl
theorem q634 : (Jvm.Cond.soleField "java/lang/Throwable" "stackTrace") ∈ lw_all := lw_g (lw_at lw_m3 78 rfl) rfl
theorem q636 : (Jvm.Cond.soleField "java/lang/Throwable" "depth") ∈ lw_all := lw_g (lw_at lw_m3 80 rfl) rfl
theorem q637 : (Jvm.Cond.soleField "java/lang/Throwable" "suppressedExceptions") ∈ lw_all := lw_g (lw_at lw_m3 81 rfl) rfl
theorem q3654 : (Jvm.Cond.sameMethod "java/lang/Throwable" "java/lang/Throwable" "fillInStackTrace" "(I)Ljava/lang/Throwable;") ∈ lw_all := lw_g (lw_at lw_m15 218 rfl) rfl
theorem q3726 : (Jvm.Cond.castable "java/lang/Throwable" "java/lang/Object") ∈ lw_tbl := lw_at lw_m16 50 rfl
theorem in_J6 : ∀ w ∈ wsJ60, w ∈ lw_all := lw_in wsJ60 [351, 353, 355, 357, 359] (by decide +kernel) (by decide +kernel)
/-! java/lang/Exception -/
def RJ7 : String := "java/lang/Exception"
abbrev cJ7_init : ByteArray := prog_33_method_2_code
def yJ7_init : MethodName := ⟨RJ7, "<init>", "(Ljava/lang/String;)V"⟩
def dkwJ7_init_0 : List UInt8 := [42, 43, 183, 0, 7, 177]
abbrev dktJ7_init_0 : List UInt8 := dkwJ7_init_0 ++ []
theorem dksJ7_init_0 : cJ7_init.data.toList.drop 0 = dktJ7_init_0 := by decide +kernel
theorem dJ7_init_0 : decode cJ7_init 0 = .ok (.aload_n 0, 1) := dk_42 (dk_at dksJ7_init_0 0 rfl rfl)
theorem dJ7_init_1 : decode cJ7_init 1 = .ok (.aload_n 1, 1) := dk_43 (dk_at dksJ7_init_0 1 rfl rfl)
theorem dJ7_init_2 : decode cJ7_init 2 = .ok (.invokespecial 7, 3) := dk_183 0 7 (dk_at dksJ7_init_0 2 rfl rfl)
theorem dJ7_init_5 : decode cJ7_init 5 = .ok (.return_, 1) := dk_177 (dk_at dksJ7_init_0 5 rfl rfl)
abbrev cJ7_init_2 : ByteArray := prog_33_method_1_code
def yJ7_init_2 : MethodName := ⟨RJ7, "<init>", "()V"⟩
theorem dJ7_init_2_0 : decode cJ7_init_2 0 = .ok (.aload_n 0, 1) := by decide +kernel
theorem dJ7_init_2_1 : decode cJ7_init_2 1 = .ok (.invokespecial 1, 3) := by decide +kernel
theorem dJ7_init_2_4 : decode cJ7_init_2 4 = .ok (.return_, 1) := by decide +kernel
theorem q87 : (Jvm.Cond.initialized "java/lang/Exception") ∈ lw_all := lw_g (lw_at lw_m1 11 rfl) rfl
theorem q344 : (Jvm.Cond.declares ({ cls := "java/lang/Exception", name := "<init>", desc := "()V" } : Jvm.MethodName)) ∈ lw_tbl := lw_at lw_m2 28 rfl
theorem q345 : (Jvm.Cond.declares ({ cls := "java/lang/Exception", name := "<init>", desc := "(Ljava/lang/String;)V" } : Jvm.MethodName)) ∈ lw_tbl := lw_at lw_m2 29 rfl
theorem q621 : (Jvm.Cond.instanceMethod ({ cls := "java/lang/Exception", name := "<init>", desc := "(Ljava/lang/String;)V" } : Jvm.MethodName)) ∈ lw_all := lw_g (lw_at lw_m3 65 rfl) rfl
theorem q622 : (Jvm.Cond.code ({ cls := "java/lang/Exception", name := "<init>", desc := "(Ljava/lang/String;)V" } : Jvm.MethodName) prog_33_method_2_code (2 : Nat) (Option.none : Option Jvm.ClassFile.FieldType)) ∈ lw_all := lw_g (lw_at lw_m3 66 rfl) rfl
theorem q623 : (Jvm.Cond.methodLink "java/lang/Exception" (7 : Nat) ({ cls := "java/lang/Throwable", name := "<init>", desc := "(Ljava/lang/String;)V" } : Jvm.MethodName)) ∈ lw_all := lw_g (lw_at lw_m3 67 rfl) rfl
theorem q992 : (Jvm.Cond.instanceMethod ({ cls := "java/lang/Exception", name := "<init>", desc := "()V" } : Jvm.MethodName)) ∈ lw_all := lw_g (lw_at lw_m4 196 rfl) rfl
theorem q993 : (Jvm.Cond.code ({ cls := "java/lang/Exception", name := "<init>", desc := "()V" } : Jvm.MethodName) prog_33_method_1_code (1 : Nat) (Option.none : Option Jvm.ClassFile.FieldType)) ∈ lw_all := lw_g (lw_at lw_m4 197 rfl) rfl
theorem q994 : (Jvm.Cond.methodLink "java/lang/Exception" (1 : Nat) ({ cls := "java/lang/Throwable", name := "<init>", desc := "()V" } : Jvm.MethodName)) ∈ lw_all := lw_g (lw_at lw_m4 198 rfl) rfl
/-! java/lang/RuntimeException -/
def RJ8 : String := "java/lang/RuntimeException"
abbrev cJ8_init : ByteArray := prog_43_method_2_code
def yJ8_init : MethodName := ⟨RJ8, "<init>", "(Ljava/lang/String;)V"⟩
def dkwJ8_init_0 : List UInt8 := [42, 43, 183, 0, 7, 177]
abbrev dktJ8_init_0 : List UInt8 := dkwJ8_init_0 ++ []
theorem dksJ8_init_0 : cJ8_init.data.toList.drop 0 = dktJ8_init_0 := by decide +kernel
theorem dJ8_init_0 : decode cJ8_init 0 = .ok (.aload_n 0, 1) := dk_42 (dk_at dksJ8_init_0 0 rfl rfl)
theorem dJ8_init_1 : decode cJ8_init 1 = .ok (.aload_n 1, 1) := dk_43 (dk_at dksJ8_init_0 1 rfl rfl)
theorem dJ8_init_2 : decode cJ8_init 2 = .ok (.invokespecial 7, 3) := dk_183 0 7 (dk_at dksJ8_init_0 2 rfl rfl)
theorem dJ8_init_5 : decode cJ8_init 5 = .ok (.return_, 1) := dk_177 (dk_at dksJ8_init_0 5 rfl rfl)
abbrev cJ8_init_2 : ByteArray := prog_43_method_1_code
def yJ8_init_2 : MethodName := ⟨RJ8, "<init>", "()V"⟩
theorem dJ8_init_2_0 : decode cJ8_init_2 0 = .ok (.aload_n 0, 1) := by decide +kernel
theorem dJ8_init_2_1 : decode cJ8_init_2 1 = .ok (.invokespecial 1, 3) := by decide +kernel
theorem dJ8_init_2_4 : decode cJ8_init_2 4 = .ok (.return_, 1) := by decide +kernel
theorem q88 : (Jvm.Cond.initialized "java/lang/RuntimeException") ∈ lw_all := lw_g (lw_at lw_m1 12 rfl) rfl
theorem q342 : (Jvm.Cond.declares ({ cls := "java/lang/RuntimeException", name := "<init>", desc := "()V" } : Jvm.MethodName)) ∈ lw_tbl := lw_at lw_m2 26 rfl
theorem q343 : (Jvm.Cond.declares ({ cls := "java/lang/RuntimeException", name := "<init>", desc := "(Ljava/lang/String;)V" } : Jvm.MethodName)) ∈ lw_tbl := lw_at lw_m2 27 rfl
theorem q618 : (Jvm.Cond.instanceMethod ({ cls := "java/lang/RuntimeException", name := "<init>", desc := "(Ljava/lang/String;)V" } : Jvm.MethodName)) ∈ lw_all := lw_g (lw_at lw_m3 62 rfl) rfl
theorem q619 : (Jvm.Cond.code ({ cls := "java/lang/RuntimeException", name := "<init>", desc := "(Ljava/lang/String;)V" } : Jvm.MethodName) prog_43_method_2_code (2 : Nat) (Option.none : Option Jvm.ClassFile.FieldType)) ∈ lw_all := lw_g (lw_at lw_m3 63 rfl) rfl
theorem q620 : (Jvm.Cond.methodLink "java/lang/RuntimeException" (7 : Nat) ({ cls := "java/lang/Exception", name := "<init>", desc := "(Ljava/lang/String;)V" } : Jvm.MethodName)) ∈ lw_all := lw_g (lw_at lw_m3 64 rfl) rfl
theorem q989 : (Jvm.Cond.instanceMethod ({ cls := "java/lang/RuntimeException", name := "<init>", desc := "()V" } : Jvm.MethodName)) ∈ lw_all := lw_g (lw_at lw_m4 193 rfl) rfl
theorem q990 : (Jvm.Cond.code ({ cls := "java/lang/RuntimeException", name := "<init>", desc := "()V" } : Jvm.MethodName) prog_43_method_1_code (1 : Nat) (Option.none : Option Jvm.ClassFile.FieldType)) ∈ lw_all := lw_g (lw_at lw_m4 194 rfl) rfl
theorem q991 : (Jvm.Cond.methodLink "java/lang/RuntimeException" (1 : Nat) ({ cls := "java/lang/Exception", name := "<init>", desc := "()V" } : Jvm.MethodName)) ∈ lw_all := lw_g (lw_at lw_m4 195 rfl) rfl
/-! java/lang/IllegalStateException -/
def RJ9 : String := "java/lang/IllegalStateException"
def TJ9 : u_T := fun k => match k with
  | 0 => ("java/lang/Throwable", "cause", "Ljava/lang/Throwable;", false)
  | 1 => ("java/lang/Throwable", "stackTrace", "[Ljava/lang/StackTraceElement;", false)
  | 2 => ("java/lang/Throwable", "suppressedExceptions", "Ljava/util/List;", false)
  | 3 => ("java/lang/Throwable", "detailMessage", "Ljava/lang/String;", false)
  | 4 => ("java/lang/Throwable", "backtrace", "Ljava/lang/Object;", false)
  | _ => ("java/lang/Throwable", "depth", "I", false)
def tyJ9 : Nat → FieldType := fun k => match k with
  | 0 => .object "java/lang/Throwable"
  | 1 => .array (.object "java/lang/StackTraceElement")
  | 2 => .object "java/util/List"
  | 3 => .object "java/lang/String"
  | 4 => .object "java/lang/Object"
  | _ => .int
abbrev wsJ90 : List Cond := u_ws RJ9 TJ9 6
theorem nmJ9 : ∀ a, a < 6 → ∀ b, b < 6 → a ≠ b → (TJ9 a).2.1 ≠ (TJ9 b).2.1 := by decide +kernel
theorem tyJ9_ok : ∀ k, k < 6 → parseFieldDescriptor (TJ9 k).2.2.1 = some (tyJ9 k) := by decide +kernel
abbrev cJ9_init : ByteArray := prog_35_method_1_code
def yJ9_init : MethodName := ⟨RJ9, "<init>", "()V"⟩
theorem dJ9_init_0 : decode cJ9_init 0 = .ok (.aload_n 0, 1) := by decide +kernel
theorem dJ9_init_1 : decode cJ9_init 1 = .ok (.invokespecial 1, 3) := by decide +kernel
theorem dJ9_init_4 : decode cJ9_init 4 = .ok (.return_, 1) := by decide +kernel
theorem q89 : (Jvm.Cond.initialized "java/lang/IllegalStateException") ∈ lw_all := lw_g (lw_at lw_m1 13 rfl) rfl
theorem q375 : (Jvm.Cond.selects "java/lang/IllegalStateException" ({ cls := "java/lang/Throwable", name := "fillInStackTrace", desc := "()Ljava/lang/Throwable;" } : Jvm.MethodName) ({ cls := "java/lang/Throwable", name := "fillInStackTrace", desc := "()Ljava/lang/Throwable;" } : Jvm.MethodName)) ∈ lw_all := lw_g (lw_at lw_m2 59 rfl) rfl
theorem q757 : (Jvm.Cond.selects "java/lang/IllegalStateException" ({ cls := "java/lang/Object", name := "getClass", desc := "()Ljava/lang/Class;" } : Jvm.MethodName) ({ cls := "java/lang/Object", name := "getClass", desc := "()Ljava/lang/Class;" } : Jvm.MethodName)) ∈ lw_all := lw_g (lw_at lw_m3 201 rfl) rfl
theorem q1289 : (Jvm.Cond.selects "java/lang/IllegalStateException" ({ cls := "java/lang/Object", name := "hashCode", desc := "()I" } : Jvm.MethodName) ({ cls := "java/lang/Object", name := "hashCode", desc := "()I" } : Jvm.MethodName)) ∈ lw_all := lw_g (lw_at lw_m6 13 rfl) rfl
theorem q1390 : (Jvm.Cond.selects "java/lang/IllegalStateException" ({ cls := "java/lang/Object", name := "equals", desc := "(Ljava/lang/Object;)Z" } : Jvm.MethodName) ({ cls := "java/lang/Object", name := "equals", desc := "(Ljava/lang/Object;)Z" } : Jvm.MethodName)) ∈ lw_all := lw_g (lw_at lw_m6 114 rfl) rfl
theorem q1843 : (Jvm.Cond.instantiable "java/lang/IllegalStateException" (6 : Nat)) ∈ lw_all := lw_g (lw_at lw_m8 87 rfl) rfl
theorem q1844 : (Jvm.Cond.castable "java/lang/IllegalStateException" "java/lang/IllegalStateException") ∈ lw_tbl := lw_at lw_m8 88 rfl
theorem q1845 : (Jvm.Cond.selects "java/lang/IllegalStateException" ({ cls := "java/lang/Throwable", name := "fillInStackTrace", desc := "(I)Ljava/lang/Throwable;" } : Jvm.MethodName) ({ cls := "java/lang/Throwable", name := "fillInStackTrace", desc := "(I)Ljava/lang/Throwable;" } : Jvm.MethodName)) ∈ lw_all := lw_g (lw_at lw_m8 89 rfl) rfl
theorem q1846 : (Jvm.Cond.lays "java/lang/IllegalStateException" "java/lang/Throwable" "cause" "Ljava/lang/Throwable;") ∈ lw_all := lw_g (lw_at lw_m8 90 rfl) rfl
theorem q1847 : (Jvm.Cond.lays "java/lang/IllegalStateException" "java/lang/Throwable" "stackTrace" "[Ljava/lang/StackTraceElement;") ∈ lw_all := lw_g (lw_at lw_m8 91 rfl) rfl
theorem q1848 : (Jvm.Cond.lays "java/lang/IllegalStateException" "java/lang/Throwable" "suppressedExceptions" "Ljava/util/List;") ∈ lw_all := lw_g (lw_at lw_m8 92 rfl) rfl
theorem q1849 : (Jvm.Cond.lays "java/lang/IllegalStateException" "java/lang/Throwable" "detailMessage" "Ljava/lang/String;") ∈ lw_all := lw_g (lw_at lw_m8 93 rfl) rfl
theorem q1850 : (Jvm.Cond.lays "java/lang/IllegalStateException" "java/lang/Throwable" "backtrace" "Ljava/lang/Object;") ∈ lw_all := lw_g (lw_at lw_m8 94 rfl) rfl
theorem q1852 : (Jvm.Cond.instanceMethod ({ cls := "java/lang/IllegalStateException", name := "<init>", desc := "()V" } : Jvm.MethodName)) ∈ lw_all := lw_g (lw_at lw_m8 96 rfl) rfl
theorem q1853 : (Jvm.Cond.code ({ cls := "java/lang/IllegalStateException", name := "<init>", desc := "()V" } : Jvm.MethodName) prog_35_method_1_code (1 : Nat) (Option.none : Option Jvm.ClassFile.FieldType)) ∈ lw_all := lw_g (lw_at lw_m8 97 rfl) rfl
theorem q1854 : (Jvm.Cond.methodLink "java/lang/IllegalStateException" (1 : Nat) ({ cls := "java/lang/RuntimeException", name := "<init>", desc := "()V" } : Jvm.MethodName)) ∈ lw_all := lw_g (lw_at lw_m8 98 rfl) rfl
theorem q1855 : (Jvm.Cond.lays "java/lang/IllegalStateException" "java/lang/Throwable" "depth" "I") ∈ lw_all := lw_g (lw_at lw_m8 99 rfl) rfl
theorem q1856 : (Jvm.Cond.superclass "java/lang/IllegalStateException" "java/lang/RuntimeException") ∈ lw_all := lw_g (lw_at lw_m8 100 rfl) rfl
theorem q3684 : (Jvm.Cond.castable "java/lang/IllegalStateException" "java/lang/Object") ∈ lw_tbl := lw_at lw_m16 8 rfl
theorem in_J9 : ∀ w ∈ wsJ90, w ∈ lw_all := lw_in wsJ90 [1846, 1847, 1848, 1849, 1850, 1855] (by decide +kernel) (by decide +kernel)
/-! java/util/TreeMap -/
def RJ10 : String := "java/util/TreeMap"
def TJ10 : u_T := fun k => match k with
  | 0 => ("java/util/AbstractMap", "keySet", "Ljava/util/Set;", false)
  | 1 => ("java/util/AbstractMap", "values", "Ljava/util/Collection;", false)
  | 2 => ("java/util/TreeMap", "comparator", "Ljava/util/Comparator;", true)
  | 3 => ("java/util/TreeMap", "root", "Ljava/util/TreeMap$Entry;", false)
  | 4 => ("java/util/TreeMap", "size", "I", false)
  | 5 => ("java/util/TreeMap", "modCount", "I", false)
  | 6 => ("java/util/TreeMap", "entrySet", "Ljava/util/TreeMap$EntrySet;", false)
  | 7 => ("java/util/TreeMap", "navigableKeySet", "Ljava/util/TreeMap$KeySet;", false)
  | _ => ("java/util/TreeMap", "descendingMap", "Ljava/util/NavigableMap;", false)
def tyJ10 : Nat → FieldType := fun k => match k with
  | 0 => .object "java/util/Set"
  | 1 => .object "java/util/Collection"
  | 2 => .object "java/util/Comparator"
  | 3 => .object "java/util/TreeMap$Entry"
  | 4 => .int
  | 5 => .int
  | 6 => .object "java/util/TreeMap$EntrySet"
  | 7 => .object "java/util/TreeMap$KeySet"
  | _ => .object "java/util/NavigableMap"
abbrev wsJ100 : List Cond := u_ws RJ10 TJ10 9
theorem nmJ10 : ∀ a, a < 9 → ∀ b, b < 9 → a ≠ b → (TJ10 a).2.1 ≠ (TJ10 b).2.1 := by decide +kernel
theorem tyJ10_ok : ∀ k, k < 9 → parseFieldDescriptor (TJ10 k).2.2.1 = some (tyJ10 k) := by decide +kernel
abbrev cJ10_getFirstEntry : ByteArray := prog_87_method_72_code
def yJ10_getFirstEntry : MethodName := ⟨RJ10, "getFirstEntry", "()Ljava/util/TreeMap$Entry;"⟩
def dkwJ10_getFirstEntry_1 : List UInt8 := [43, 176]
abbrev dktJ10_getFirstEntry_1 : List UInt8 := dkwJ10_getFirstEntry_1 ++ []
def dkwJ10_getFirstEntry_0 : List UInt8 := [42, 180, 0, 101, 76, 43, 198, 0, 18, 43, 180, 0, 111, 198, 0, 11, 43, 180, 0, 111, 76, 167, 255, 244]
abbrev dktJ10_getFirstEntry_0 : List UInt8 := dkwJ10_getFirstEntry_0 ++ dktJ10_getFirstEntry_1
theorem dksJ10_getFirstEntry_0 : cJ10_getFirstEntry.data.toList.drop 0 = dktJ10_getFirstEntry_0 := by decide +kernel
theorem dksJ10_getFirstEntry_1 : cJ10_getFirstEntry.data.toList.drop 24 = dktJ10_getFirstEntry_1 := dk_seg dksJ10_getFirstEntry_0 24 rfl rfl
theorem dJ10_getFirstEntry_0 : decode cJ10_getFirstEntry 0 = .ok (.aload_n 0, 1) := dk_42 (dk_at dksJ10_getFirstEntry_0 0 rfl rfl)
theorem dJ10_getFirstEntry_1 : decode cJ10_getFirstEntry 1 = .ok (.getfield 101, 3) := dk_180 0 101 (dk_at dksJ10_getFirstEntry_0 1 rfl rfl)
theorem dJ10_getFirstEntry_4 : decode cJ10_getFirstEntry 4 = .ok (.astore_n 1, 1) := dk_76 (dk_at dksJ10_getFirstEntry_0 4 rfl rfl)
theorem dJ10_getFirstEntry_5 : decode cJ10_getFirstEntry 5 = .ok (.aload_n 1, 1) := dk_43 (dk_at dksJ10_getFirstEntry_0 5 rfl rfl)
theorem dJ10_getFirstEntry_6 : decode cJ10_getFirstEntry 6 = .ok (.ifnull 18, 3) := dk_198 0 18 (dk_at dksJ10_getFirstEntry_0 6 rfl rfl)
theorem dJ10_getFirstEntry_9 : decode cJ10_getFirstEntry 9 = .ok (.aload_n 1, 1) := dk_43 (dk_at dksJ10_getFirstEntry_0 9 rfl rfl)
theorem dJ10_getFirstEntry_10 : decode cJ10_getFirstEntry 10 = .ok (.getfield 111, 3) := dk_180 0 111 (dk_at dksJ10_getFirstEntry_0 10 rfl rfl)
theorem dJ10_getFirstEntry_13 : decode cJ10_getFirstEntry 13 = .ok (.ifnull 11, 3) := dk_198 0 11 (dk_at dksJ10_getFirstEntry_0 13 rfl rfl)
theorem dJ10_getFirstEntry_16 : decode cJ10_getFirstEntry 16 = .ok (.aload_n 1, 1) := dk_43 (dk_at dksJ10_getFirstEntry_0 16 rfl rfl)
theorem dJ10_getFirstEntry_17 : decode cJ10_getFirstEntry 17 = .ok (.getfield 111, 3) := dk_180 0 111 (dk_at dksJ10_getFirstEntry_0 17 rfl rfl)
theorem dJ10_getFirstEntry_20 : decode cJ10_getFirstEntry 20 = .ok (.astore_n 1, 1) := dk_76 (dk_at dksJ10_getFirstEntry_0 20 rfl rfl)
theorem dJ10_getFirstEntry_21 : decode cJ10_getFirstEntry 21 = .ok (.goto (-12), 3) := dk_167 255 244 (dk_at dksJ10_getFirstEntry_0 21 rfl rfl)
theorem dJ10_getFirstEntry_24 : decode cJ10_getFirstEntry 24 = .ok (.aload_n 1, 1) := dk_43 (dk_at dksJ10_getFirstEntry_1 0 rfl rfl)
theorem dJ10_getFirstEntry_25 : decode cJ10_getFirstEntry 25 = .ok (.areturn, 1) := dk_176 (dk_at dksJ10_getFirstEntry_1 1 rfl rfl)
abbrev cJ10_keyIterator : ByteArray := prog_87_method_65_code
def yJ10_keyIterator : MethodName := ⟨RJ10, "keyIterator", "()Ljava/util/Iterator;"⟩
def dkwJ10_keyIterator_0 : List UInt8 := [187, 1, 13, 89, 42, 42, 182, 0, 54, 183, 1, 15, 176]
abbrev dktJ10_keyIterator_0 : List UInt8 := dkwJ10_keyIterator_0 ++ []
theorem dksJ10_keyIterator_0 : cJ10_keyIterator.data.toList.drop 0 = dktJ10_keyIterator_0 := by decide +kernel
theorem dJ10_keyIterator_0 : decode cJ10_keyIterator 0 = .ok (.new 269, 3) := dk_187 1 13 (dk_at dksJ10_keyIterator_0 0 rfl rfl)
theorem dJ10_keyIterator_3 : decode cJ10_keyIterator 3 = .ok (.dup, 1) := dk_89 (dk_at dksJ10_keyIterator_0 3 rfl rfl)
theorem dJ10_keyIterator_4 : decode cJ10_keyIterator 4 = .ok (.aload_n 0, 1) := dk_42 (dk_at dksJ10_keyIterator_0 4 rfl rfl)
theorem dJ10_keyIterator_5 : decode cJ10_keyIterator 5 = .ok (.aload_n 0, 1) := dk_42 (dk_at dksJ10_keyIterator_0 5 rfl rfl)
theorem dJ10_keyIterator_6 : decode cJ10_keyIterator 6 = .ok (.invokevirtual 54, 3) := dk_182 0 54 (dk_at dksJ10_keyIterator_0 6 rfl rfl)
theorem dJ10_keyIterator_9 : decode cJ10_keyIterator 9 = .ok (.invokespecial 271, 3) := dk_183 1 15 (dk_at dksJ10_keyIterator_0 9 rfl rfl)
theorem dJ10_keyIterator_12 : decode cJ10_keyIterator 12 = .ok (.areturn, 1) := dk_176 (dk_at dksJ10_keyIterator_0 12 rfl rfl)
abbrev cJ10_successor : ByteArray := prog_87_method_74_code
def yJ10_successor : MethodName := ⟨RJ10, "successor", "(Ljava/util/TreeMap$Entry;)Ljava/util/TreeMap$Entry;"⟩
def dkwJ10_successor_2 : List UInt8 := [44, 43, 180, 0, 114, 166, 0, 13, 43, 77, 43, 180, 0, 124, 76, 167, 255, 237, 43, 176]
abbrev dktJ10_successor_2 : List UInt8 := dkwJ10_successor_2 ++ []
def dkwJ10_successor_1 : List UInt8 := [198, 0, 11, 43, 180, 0, 111, 76, 167, 255, 244, 43, 176, 42, 180, 0, 124, 76, 42, 77, 43, 198, 0, 21]
abbrev dktJ10_successor_1 : List UInt8 := dkwJ10_successor_1 ++ dktJ10_successor_2
def dkwJ10_successor_0 : List UInt8 := [42, 199, 0, 5, 1, 176, 42, 180, 0, 114, 198, 0, 25, 42, 180, 0, 114, 76, 43, 180, 0, 111]
abbrev dktJ10_successor_0 : List UInt8 := dkwJ10_successor_0 ++ dktJ10_successor_1
theorem dksJ10_successor_0 : cJ10_successor.data.toList.drop 0 = dktJ10_successor_0 := by decide +kernel
theorem dksJ10_successor_1 : cJ10_successor.data.toList.drop 22 = dktJ10_successor_1 := dk_seg dksJ10_successor_0 22 rfl rfl
theorem dksJ10_successor_2 : cJ10_successor.data.toList.drop 46 = dktJ10_successor_2 := dk_seg dksJ10_successor_1 24 rfl rfl
theorem dJ10_successor_0 : decode cJ10_successor 0 = .ok (.aload_n 0, 1) := dk_42 (dk_at dksJ10_successor_0 0 rfl rfl)
theorem dJ10_successor_1 : decode cJ10_successor 1 = .ok (.ifnonnull 5, 3) := dk_199 0 5 (dk_at dksJ10_successor_0 1 rfl rfl)
theorem dJ10_successor_4 : decode cJ10_successor 4 = .ok (.aconst_null, 1) := dk_1 (dk_at dksJ10_successor_0 4 rfl rfl)
theorem dJ10_successor_5 : decode cJ10_successor 5 = .ok (.areturn, 1) := dk_176 (dk_at dksJ10_successor_0 5 rfl rfl)
theorem dJ10_successor_6 : decode cJ10_successor 6 = .ok (.aload_n 0, 1) := dk_42 (dk_at dksJ10_successor_0 6 rfl rfl)
theorem dJ10_successor_7 : decode cJ10_successor 7 = .ok (.getfield 114, 3) := dk_180 0 114 (dk_at dksJ10_successor_0 7 rfl rfl)
theorem dJ10_successor_10 : decode cJ10_successor 10 = .ok (.ifnull 25, 3) := dk_198 0 25 (dk_at dksJ10_successor_0 10 rfl rfl)
theorem dJ10_successor_13 : decode cJ10_successor 13 = .ok (.aload_n 0, 1) := dk_42 (dk_at dksJ10_successor_0 13 rfl rfl)
theorem dJ10_successor_14 : decode cJ10_successor 14 = .ok (.getfield 114, 3) := dk_180 0 114 (dk_at dksJ10_successor_0 14 rfl rfl)
theorem dJ10_successor_17 : decode cJ10_successor 17 = .ok (.astore_n 1, 1) := dk_76 (dk_at dksJ10_successor_0 17 rfl rfl)
theorem dJ10_successor_18 : decode cJ10_successor 18 = .ok (.aload_n 1, 1) := dk_43 (dk_at dksJ10_successor_0 18 rfl rfl)
theorem dJ10_successor_19 : decode cJ10_successor 19 = .ok (.getfield 111, 3) := dk_180 0 111 (dk_at dksJ10_successor_0 19 rfl rfl)
theorem dJ10_successor_22 : decode cJ10_successor 22 = .ok (.ifnull 11, 3) := dk_198 0 11 (dk_at dksJ10_successor_1 0 rfl rfl)
theorem dJ10_successor_25 : decode cJ10_successor 25 = .ok (.aload_n 1, 1) := dk_43 (dk_at dksJ10_successor_1 3 rfl rfl)
theorem dJ10_successor_26 : decode cJ10_successor 26 = .ok (.getfield 111, 3) := dk_180 0 111 (dk_at dksJ10_successor_1 4 rfl rfl)
theorem dJ10_successor_29 : decode cJ10_successor 29 = .ok (.astore_n 1, 1) := dk_76 (dk_at dksJ10_successor_1 7 rfl rfl)
theorem dJ10_successor_30 : decode cJ10_successor 30 = .ok (.goto (-12), 3) := dk_167 255 244 (dk_at dksJ10_successor_1 8 rfl rfl)
theorem dJ10_successor_33 : decode cJ10_successor 33 = .ok (.aload_n 1, 1) := dk_43 (dk_at dksJ10_successor_1 11 rfl rfl)
theorem dJ10_successor_34 : decode cJ10_successor 34 = .ok (.areturn, 1) := dk_176 (dk_at dksJ10_successor_1 12 rfl rfl)
theorem dJ10_successor_35 : decode cJ10_successor 35 = .ok (.aload_n 0, 1) := dk_42 (dk_at dksJ10_successor_1 13 rfl rfl)
theorem dJ10_successor_36 : decode cJ10_successor 36 = .ok (.getfield 124, 3) := dk_180 0 124 (dk_at dksJ10_successor_1 14 rfl rfl)
theorem dJ10_successor_39 : decode cJ10_successor 39 = .ok (.astore_n 1, 1) := dk_76 (dk_at dksJ10_successor_1 17 rfl rfl)
theorem dJ10_successor_40 : decode cJ10_successor 40 = .ok (.aload_n 0, 1) := dk_42 (dk_at dksJ10_successor_1 18 rfl rfl)
theorem dJ10_successor_41 : decode cJ10_successor 41 = .ok (.astore_n 2, 1) := dk_77 (dk_at dksJ10_successor_1 19 rfl rfl)
theorem dJ10_successor_42 : decode cJ10_successor 42 = .ok (.aload_n 1, 1) := dk_43 (dk_at dksJ10_successor_1 20 rfl rfl)
theorem dJ10_successor_43 : decode cJ10_successor 43 = .ok (.ifnull 21, 3) := dk_198 0 21 (dk_at dksJ10_successor_1 21 rfl rfl)
theorem dJ10_successor_46 : decode cJ10_successor 46 = .ok (.aload_n 2, 1) := dk_44 (dk_at dksJ10_successor_2 0 rfl rfl)
theorem dJ10_successor_47 : decode cJ10_successor 47 = .ok (.aload_n 1, 1) := dk_43 (dk_at dksJ10_successor_2 1 rfl rfl)
theorem dJ10_successor_48 : decode cJ10_successor 48 = .ok (.getfield 114, 3) := dk_180 0 114 (dk_at dksJ10_successor_2 2 rfl rfl)
theorem dJ10_successor_51 : decode cJ10_successor 51 = .ok (.if_acmp .ne 13, 3) := dk_166 0 13 (dk_at dksJ10_successor_2 5 rfl rfl)
theorem dJ10_successor_54 : decode cJ10_successor 54 = .ok (.aload_n 1, 1) := dk_43 (dk_at dksJ10_successor_2 8 rfl rfl)
theorem dJ10_successor_55 : decode cJ10_successor 55 = .ok (.astore_n 2, 1) := dk_77 (dk_at dksJ10_successor_2 9 rfl rfl)
theorem dJ10_successor_56 : decode cJ10_successor 56 = .ok (.aload_n 1, 1) := dk_43 (dk_at dksJ10_successor_2 10 rfl rfl)
theorem dJ10_successor_57 : decode cJ10_successor 57 = .ok (.getfield 124, 3) := dk_180 0 124 (dk_at dksJ10_successor_2 11 rfl rfl)
theorem dJ10_successor_60 : decode cJ10_successor 60 = .ok (.astore_n 1, 1) := dk_76 (dk_at dksJ10_successor_2 14 rfl rfl)
theorem dJ10_successor_61 : decode cJ10_successor 61 = .ok (.goto (-19), 3) := dk_167 255 237 (dk_at dksJ10_successor_2 15 rfl rfl)
theorem dJ10_successor_64 : decode cJ10_successor 64 = .ok (.aload_n 1, 1) := dk_43 (dk_at dksJ10_successor_2 18 rfl rfl)
theorem dJ10_successor_65 : decode cJ10_successor 65 = .ok (.areturn, 1) := dk_176 (dk_at dksJ10_successor_2 19 rfl rfl)
abbrev cJ10_values : ByteArray := prog_87_method_52_code
def yJ10_values : MethodName := ⟨RJ10, "values", "()Ljava/util/Collection;"⟩
def dkwJ10_values_1 : List UInt8 := [176]
abbrev dktJ10_values_1 : List UInt8 := dkwJ10_values_1 ++ []
def dkwJ10_values_0 : List UInt8 := [42, 180, 0, 233, 76, 43, 199, 0, 17, 187, 0, 237, 89, 42, 183, 0, 239, 76, 42, 43, 181, 0, 233, 43]
abbrev dktJ10_values_0 : List UInt8 := dkwJ10_values_0 ++ dktJ10_values_1
theorem dksJ10_values_0 : cJ10_values.data.toList.drop 0 = dktJ10_values_0 := by decide +kernel
theorem dksJ10_values_1 : cJ10_values.data.toList.drop 24 = dktJ10_values_1 := dk_seg dksJ10_values_0 24 rfl rfl
theorem dJ10_values_0 : decode cJ10_values 0 = .ok (.aload_n 0, 1) := dk_42 (dk_at dksJ10_values_0 0 rfl rfl)
theorem dJ10_values_1 : decode cJ10_values 1 = .ok (.getfield 233, 3) := dk_180 0 233 (dk_at dksJ10_values_0 1 rfl rfl)
theorem dJ10_values_4 : decode cJ10_values 4 = .ok (.astore_n 1, 1) := dk_76 (dk_at dksJ10_values_0 4 rfl rfl)
theorem dJ10_values_5 : decode cJ10_values 5 = .ok (.aload_n 1, 1) := dk_43 (dk_at dksJ10_values_0 5 rfl rfl)
theorem dJ10_values_6 : decode cJ10_values 6 = .ok (.ifnonnull 17, 3) := dk_199 0 17 (dk_at dksJ10_values_0 6 rfl rfl)
theorem dJ10_values_9 : decode cJ10_values 9 = .ok (.new 237, 3) := dk_187 0 237 (dk_at dksJ10_values_0 9 rfl rfl)
theorem dJ10_values_12 : decode cJ10_values 12 = .ok (.dup, 1) := dk_89 (dk_at dksJ10_values_0 12 rfl rfl)
theorem dJ10_values_13 : decode cJ10_values 13 = .ok (.aload_n 0, 1) := dk_42 (dk_at dksJ10_values_0 13 rfl rfl)
theorem dJ10_values_14 : decode cJ10_values 14 = .ok (.invokespecial 239, 3) := dk_183 0 239 (dk_at dksJ10_values_0 14 rfl rfl)
theorem dJ10_values_17 : decode cJ10_values 17 = .ok (.astore_n 1, 1) := dk_76 (dk_at dksJ10_values_0 17 rfl rfl)
theorem dJ10_values_18 : decode cJ10_values 18 = .ok (.aload_n 0, 1) := dk_42 (dk_at dksJ10_values_0 18 rfl rfl)
theorem dJ10_values_19 : decode cJ10_values 19 = .ok (.aload_n 1, 1) := dk_43 (dk_at dksJ10_values_0 19 rfl rfl)
theorem dJ10_values_20 : decode cJ10_values 20 = .ok (.putfield 233, 3) := dk_181 0 233 (dk_at dksJ10_values_0 20 rfl rfl)
theorem dJ10_values_23 : decode cJ10_values 23 = .ok (.aload_n 1, 1) := dk_43 (dk_at dksJ10_values_0 23 rfl rfl)
theorem dJ10_values_24 : decode cJ10_values 24 = .ok (.areturn, 1) := dk_176 (dk_at dksJ10_values_1 0 rfl rfl)
abbrev cJ10_containsKey : ByteArray := prog_87_method_6_code
def yJ10_containsKey : MethodName := ⟨RJ10, "containsKey", "(Ljava/lang/Object;)Z"⟩
def dkwJ10_containsKey_0 : List UInt8 := [42, 43, 182, 0, 50, 198, 0, 7, 4, 167, 0, 4, 3, 172]
abbrev dktJ10_containsKey_0 : List UInt8 := dkwJ10_containsKey_0 ++ []
theorem dksJ10_containsKey_0 : cJ10_containsKey.data.toList.drop 0 = dktJ10_containsKey_0 := by decide +kernel
theorem dJ10_containsKey_0 : decode cJ10_containsKey 0 = .ok (.aload_n 0, 1) := dk_42 (dk_at dksJ10_containsKey_0 0 rfl rfl)
theorem dJ10_containsKey_1 : decode cJ10_containsKey 1 = .ok (.aload_n 1, 1) := dk_43 (dk_at dksJ10_containsKey_0 1 rfl rfl)
theorem dJ10_containsKey_2 : decode cJ10_containsKey 2 = .ok (.invokevirtual 50, 3) := dk_182 0 50 (dk_at dksJ10_containsKey_0 2 rfl rfl)
theorem dJ10_containsKey_5 : decode cJ10_containsKey 5 = .ok (.ifnull 7, 3) := dk_198 0 7 (dk_at dksJ10_containsKey_0 5 rfl rfl)
theorem dJ10_containsKey_8 : decode cJ10_containsKey 8 = .ok (.iconst 1, 1) := dk_4 (dk_at dksJ10_containsKey_0 8 rfl rfl)
theorem dJ10_containsKey_9 : decode cJ10_containsKey 9 = .ok (.goto 4, 3) := dk_167 0 4 (dk_at dksJ10_containsKey_0 9 rfl rfl)
theorem dJ10_containsKey_12 : decode cJ10_containsKey 12 = .ok (.iconst 0, 1) := dk_3 (dk_at dksJ10_containsKey_0 12 rfl rfl)
theorem dJ10_containsKey_13 : decode cJ10_containsKey 13 = .ok (.ireturn, 1) := dk_172 (dk_at dksJ10_containsKey_0 13 rfl rfl)
abbrev cJ10_getEntry : ByteArray := prog_87_method_15_code
def yJ10_getEntry : MethodName := ⟨RJ10, "getEntry", "(Ljava/lang/Object;)Ljava/util/TreeMap$Entry;"⟩
def dkwJ10_getEntry_3 : List UInt8 := [45, 176, 167, 255, 212, 1, 176]
abbrev dktJ10_getEntry_3 : List UInt8 := dkwJ10_getEntry_3 ++ []
def dkwJ10_getEntry_2 : List UInt8 := [156, 0, 11, 45, 180, 0, 111, 78, 167, 0, 18, 21, 4, 158, 0, 11, 45, 180, 0, 114, 78, 167, 0, 5]
abbrev dktJ10_getEntry_2 : List UInt8 := dkwJ10_getEntry_2 ++ dktJ10_getEntry_3
def dkwJ10_getEntry_1 : List UInt8 := [180, 0, 101, 78, 45, 198, 0, 46, 44, 45, 180, 0, 105, 185, 0, 107, 2, 0, 54, 4, 21, 4]
abbrev dktJ10_getEntry_1 : List UInt8 := dkwJ10_getEntry_1 ++ dktJ10_getEntry_2
def dkwJ10_getEntry_0 : List UInt8 := [42, 180, 0, 16, 198, 0, 9, 42, 43, 182, 0, 92, 176, 43, 184, 0, 95, 87, 43, 192, 0, 99, 77, 42]
abbrev dktJ10_getEntry_0 : List UInt8 := dkwJ10_getEntry_0 ++ dktJ10_getEntry_1
theorem dksJ10_getEntry_0 : cJ10_getEntry.data.toList.drop 0 = dktJ10_getEntry_0 := by decide +kernel
theorem dksJ10_getEntry_1 : cJ10_getEntry.data.toList.drop 24 = dktJ10_getEntry_1 := dk_seg dksJ10_getEntry_0 24 rfl rfl
theorem dksJ10_getEntry_2 : cJ10_getEntry.data.toList.drop 46 = dktJ10_getEntry_2 := dk_seg dksJ10_getEntry_1 22 rfl rfl
theorem dksJ10_getEntry_3 : cJ10_getEntry.data.toList.drop 70 = dktJ10_getEntry_3 := dk_seg dksJ10_getEntry_2 24 rfl rfl
theorem dJ10_getEntry_0 : decode cJ10_getEntry 0 = .ok (.aload_n 0, 1) := dk_42 (dk_at dksJ10_getEntry_0 0 rfl rfl)
theorem dJ10_getEntry_1 : decode cJ10_getEntry 1 = .ok (.getfield 16, 3) := dk_180 0 16 (dk_at dksJ10_getEntry_0 1 rfl rfl)
theorem dJ10_getEntry_4 : decode cJ10_getEntry 4 = .ok (.ifnull 9, 3) := dk_198 0 9 (dk_at dksJ10_getEntry_0 4 rfl rfl)
theorem dJ10_getEntry_7 : decode cJ10_getEntry 7 = .ok (.aload_n 0, 1) := dk_42 (dk_at dksJ10_getEntry_0 7 rfl rfl)
theorem dJ10_getEntry_8 : decode cJ10_getEntry 8 = .ok (.aload_n 1, 1) := dk_43 (dk_at dksJ10_getEntry_0 8 rfl rfl)
theorem dJ10_getEntry_9 : decode cJ10_getEntry 9 = .ok (.invokevirtual 92, 3) := dk_182 0 92 (dk_at dksJ10_getEntry_0 9 rfl rfl)
theorem dJ10_getEntry_12 : decode cJ10_getEntry 12 = .ok (.areturn, 1) := dk_176 (dk_at dksJ10_getEntry_0 12 rfl rfl)
theorem dJ10_getEntry_13 : decode cJ10_getEntry 13 = .ok (.aload_n 1, 1) := dk_43 (dk_at dksJ10_getEntry_0 13 rfl rfl)
theorem dJ10_getEntry_14 : decode cJ10_getEntry 14 = .ok (.invokestatic 95, 3) := dk_184 0 95 (dk_at dksJ10_getEntry_0 14 rfl rfl)
theorem dJ10_getEntry_17 : decode cJ10_getEntry 17 = .ok (.pop, 1) := dk_87 (dk_at dksJ10_getEntry_0 17 rfl rfl)
theorem dJ10_getEntry_18 : decode cJ10_getEntry 18 = .ok (.aload_n 1, 1) := dk_43 (dk_at dksJ10_getEntry_0 18 rfl rfl)
theorem dJ10_getEntry_19 : decode cJ10_getEntry 19 = .ok (.checkcast 99, 3) := dk_192 0 99 (dk_at dksJ10_getEntry_0 19 rfl rfl)
theorem dJ10_getEntry_22 : decode cJ10_getEntry 22 = .ok (.astore_n 2, 1) := dk_77 (dk_at dksJ10_getEntry_0 22 rfl rfl)
theorem dJ10_getEntry_23 : decode cJ10_getEntry 23 = .ok (.aload_n 0, 1) := dk_42 (dk_at dksJ10_getEntry_0 23 rfl rfl)
theorem dJ10_getEntry_24 : decode cJ10_getEntry 24 = .ok (.getfield 101, 3) := dk_180 0 101 (dk_at dksJ10_getEntry_1 0 rfl rfl)
theorem dJ10_getEntry_27 : decode cJ10_getEntry 27 = .ok (.astore_n 3, 1) := dk_78 (dk_at dksJ10_getEntry_1 3 rfl rfl)
theorem dJ10_getEntry_28 : decode cJ10_getEntry 28 = .ok (.aload_n 3, 1) := dk_45 (dk_at dksJ10_getEntry_1 4 rfl rfl)
theorem dJ10_getEntry_29 : decode cJ10_getEntry 29 = .ok (.ifnull 46, 3) := dk_198 0 46 (dk_at dksJ10_getEntry_1 5 rfl rfl)
theorem dJ10_getEntry_32 : decode cJ10_getEntry 32 = .ok (.aload_n 2, 1) := dk_44 (dk_at dksJ10_getEntry_1 8 rfl rfl)
theorem dJ10_getEntry_33 : decode cJ10_getEntry 33 = .ok (.aload_n 3, 1) := dk_45 (dk_at dksJ10_getEntry_1 9 rfl rfl)
theorem dJ10_getEntry_34 : decode cJ10_getEntry 34 = .ok (.getfield 105, 3) := dk_180 0 105 (dk_at dksJ10_getEntry_1 10 rfl rfl)
theorem dJ10_getEntry_37 : decode cJ10_getEntry 37 = .ok (.invokeinterface 107 2, 5) := by decide +kernel
theorem dJ10_getEntry_42 : decode cJ10_getEntry 42 = .ok (.istore 4, 2) := dk_54 4 (dk_at dksJ10_getEntry_1 18 rfl rfl)
theorem dJ10_getEntry_44 : decode cJ10_getEntry 44 = .ok (.iload 4, 2) := dk_21 4 (dk_at dksJ10_getEntry_1 20 rfl rfl)
theorem dJ10_getEntry_46 : decode cJ10_getEntry 46 = .ok (.ifCond .ge 11, 3) := dk_156 0 11 (dk_at dksJ10_getEntry_2 0 rfl rfl)
theorem dJ10_getEntry_49 : decode cJ10_getEntry 49 = .ok (.aload_n 3, 1) := dk_45 (dk_at dksJ10_getEntry_2 3 rfl rfl)
theorem dJ10_getEntry_50 : decode cJ10_getEntry 50 = .ok (.getfield 111, 3) := dk_180 0 111 (dk_at dksJ10_getEntry_2 4 rfl rfl)
theorem dJ10_getEntry_53 : decode cJ10_getEntry 53 = .ok (.astore_n 3, 1) := dk_78 (dk_at dksJ10_getEntry_2 7 rfl rfl)
theorem dJ10_getEntry_54 : decode cJ10_getEntry 54 = .ok (.goto 18, 3) := dk_167 0 18 (dk_at dksJ10_getEntry_2 8 rfl rfl)
theorem dJ10_getEntry_57 : decode cJ10_getEntry 57 = .ok (.iload 4, 2) := dk_21 4 (dk_at dksJ10_getEntry_2 11 rfl rfl)
theorem dJ10_getEntry_59 : decode cJ10_getEntry 59 = .ok (.ifCond .le 11, 3) := dk_158 0 11 (dk_at dksJ10_getEntry_2 13 rfl rfl)
theorem dJ10_getEntry_62 : decode cJ10_getEntry 62 = .ok (.aload_n 3, 1) := dk_45 (dk_at dksJ10_getEntry_2 16 rfl rfl)
theorem dJ10_getEntry_63 : decode cJ10_getEntry 63 = .ok (.getfield 114, 3) := dk_180 0 114 (dk_at dksJ10_getEntry_2 17 rfl rfl)
theorem dJ10_getEntry_66 : decode cJ10_getEntry 66 = .ok (.astore_n 3, 1) := dk_78 (dk_at dksJ10_getEntry_2 20 rfl rfl)
theorem dJ10_getEntry_67 : decode cJ10_getEntry 67 = .ok (.goto 5, 3) := dk_167 0 5 (dk_at dksJ10_getEntry_2 21 rfl rfl)
theorem dJ10_getEntry_70 : decode cJ10_getEntry 70 = .ok (.aload_n 3, 1) := dk_45 (dk_at dksJ10_getEntry_3 0 rfl rfl)
theorem dJ10_getEntry_71 : decode cJ10_getEntry 71 = .ok (.areturn, 1) := dk_176 (dk_at dksJ10_getEntry_3 1 rfl rfl)
theorem dJ10_getEntry_72 : decode cJ10_getEntry 72 = .ok (.goto (-44), 3) := dk_167 255 212 (dk_at dksJ10_getEntry_3 2 rfl rfl)
theorem dJ10_getEntry_75 : decode cJ10_getEntry 75 = .ok (.aconst_null, 1) := dk_1 (dk_at dksJ10_getEntry_3 5 rfl rfl)
theorem dJ10_getEntry_76 : decode cJ10_getEntry 76 = .ok (.areturn, 1) := dk_176 (dk_at dksJ10_getEntry_3 6 rfl rfl)
abbrev cJ10_getEntryUsingComparator : ByteArray := prog_87_method_16_code
def yJ10_getEntryUsingComparator : MethodName := ⟨RJ10, "getEntryUsingComparator", "(Ljava/lang/Object;)Ljava/util/TreeMap$Entry;"⟩
def dkwJ10_getEntryUsingComparator_3 : List UInt8 := [1, 176]
abbrev dktJ10_getEntryUsingComparator_3 : List UInt8 := dkwJ10_getEntryUsingComparator_3 ++ []
def dkwJ10_getEntryUsingComparator_2 : List UInt8 := [167, 0, 21, 21, 5, 158, 0, 13, 25, 4, 180, 0, 114, 58, 4, 167, 0, 6, 25, 4, 176, 167, 255, 204]
abbrev dktJ10_getEntryUsingComparator_2 : List UInt8 := dkwJ10_getEntryUsingComparator_2 ++ dktJ10_getEntryUsingComparator_3
def dkwJ10_getEntryUsingComparator_1 : List UInt8 := [25, 4, 180, 0, 105, 185, 0, 117, 3, 0, 54, 5, 21, 5, 156, 0, 13, 25, 4, 180, 0, 111, 58, 4]
abbrev dktJ10_getEntryUsingComparator_1 : List UInt8 := dkwJ10_getEntryUsingComparator_1 ++ dktJ10_getEntryUsingComparator_2
def dkwJ10_getEntryUsingComparator_0 : List UInt8 := [43, 77, 42, 180, 0, 16, 78, 45, 198, 0, 64, 42, 180, 0, 101, 58, 4, 25, 4, 198, 0, 53, 45, 44]
abbrev dktJ10_getEntryUsingComparator_0 : List UInt8 := dkwJ10_getEntryUsingComparator_0 ++ dktJ10_getEntryUsingComparator_1
theorem dksJ10_getEntryUsingComparator_0 : cJ10_getEntryUsingComparator.data.toList.drop 0 = dktJ10_getEntryUsingComparator_0 := by decide +kernel
theorem dksJ10_getEntryUsingComparator_1 : cJ10_getEntryUsingComparator.data.toList.drop 24 = dktJ10_getEntryUsingComparator_1 := dk_seg dksJ10_getEntryUsingComparator_0 24 rfl rfl
theorem dksJ10_getEntryUsingComparator_2 : cJ10_getEntryUsingComparator.data.toList.drop 48 = dktJ10_getEntryUsingComparator_2 := dk_seg dksJ10_getEntryUsingComparator_1 24 rfl rfl
theorem dksJ10_getEntryUsingComparator_3 : cJ10_getEntryUsingComparator.data.toList.drop 72 = dktJ10_getEntryUsingComparator_3 := dk_seg dksJ10_getEntryUsingComparator_2 24 rfl rfl
theorem dJ10_getEntryUsingComparator_0 : decode cJ10_getEntryUsingComparator 0 = .ok (.aload_n 1, 1) := dk_43 (dk_at dksJ10_getEntryUsingComparator_0 0 rfl rfl)
theorem dJ10_getEntryUsingComparator_1 : decode cJ10_getEntryUsingComparator 1 = .ok (.astore_n 2, 1) := dk_77 (dk_at dksJ10_getEntryUsingComparator_0 1 rfl rfl)
theorem dJ10_getEntryUsingComparator_2 : decode cJ10_getEntryUsingComparator 2 = .ok (.aload_n 0, 1) := dk_42 (dk_at dksJ10_getEntryUsingComparator_0 2 rfl rfl)
theorem dJ10_getEntryUsingComparator_3 : decode cJ10_getEntryUsingComparator 3 = .ok (.getfield 16, 3) := dk_180 0 16 (dk_at dksJ10_getEntryUsingComparator_0 3 rfl rfl)
theorem dJ10_getEntryUsingComparator_6 : decode cJ10_getEntryUsingComparator 6 = .ok (.astore_n 3, 1) := dk_78 (dk_at dksJ10_getEntryUsingComparator_0 6 rfl rfl)
theorem dJ10_getEntryUsingComparator_7 : decode cJ10_getEntryUsingComparator 7 = .ok (.aload_n 3, 1) := dk_45 (dk_at dksJ10_getEntryUsingComparator_0 7 rfl rfl)
theorem dJ10_getEntryUsingComparator_8 : decode cJ10_getEntryUsingComparator 8 = .ok (.ifnull 64, 3) := dk_198 0 64 (dk_at dksJ10_getEntryUsingComparator_0 8 rfl rfl)
theorem dJ10_getEntryUsingComparator_11 : decode cJ10_getEntryUsingComparator 11 = .ok (.aload_n 0, 1) := dk_42 (dk_at dksJ10_getEntryUsingComparator_0 11 rfl rfl)
theorem dJ10_getEntryUsingComparator_12 : decode cJ10_getEntryUsingComparator 12 = .ok (.getfield 101, 3) := dk_180 0 101 (dk_at dksJ10_getEntryUsingComparator_0 12 rfl rfl)
theorem dJ10_getEntryUsingComparator_15 : decode cJ10_getEntryUsingComparator 15 = .ok (.astore 4, 2) := dk_58 4 (dk_at dksJ10_getEntryUsingComparator_0 15 rfl rfl)
theorem dJ10_getEntryUsingComparator_17 : decode cJ10_getEntryUsingComparator 17 = .ok (.aload 4, 2) := dk_25 4 (dk_at dksJ10_getEntryUsingComparator_0 17 rfl rfl)
theorem dJ10_getEntryUsingComparator_19 : decode cJ10_getEntryUsingComparator 19 = .ok (.ifnull 53, 3) := dk_198 0 53 (dk_at dksJ10_getEntryUsingComparator_0 19 rfl rfl)
theorem dJ10_getEntryUsingComparator_22 : decode cJ10_getEntryUsingComparator 22 = .ok (.aload_n 3, 1) := dk_45 (dk_at dksJ10_getEntryUsingComparator_0 22 rfl rfl)
theorem dJ10_getEntryUsingComparator_23 : decode cJ10_getEntryUsingComparator 23 = .ok (.aload_n 2, 1) := dk_44 (dk_at dksJ10_getEntryUsingComparator_0 23 rfl rfl)
theorem dJ10_getEntryUsingComparator_24 : decode cJ10_getEntryUsingComparator 24 = .ok (.aload 4, 2) := dk_25 4 (dk_at dksJ10_getEntryUsingComparator_1 0 rfl rfl)
theorem dJ10_getEntryUsingComparator_26 : decode cJ10_getEntryUsingComparator 26 = .ok (.getfield 105, 3) := dk_180 0 105 (dk_at dksJ10_getEntryUsingComparator_1 2 rfl rfl)
theorem dJ10_getEntryUsingComparator_29 : decode cJ10_getEntryUsingComparator 29 = .ok (.invokeinterface 117 3, 5) := by decide +kernel
theorem dJ10_getEntryUsingComparator_34 : decode cJ10_getEntryUsingComparator 34 = .ok (.istore 5, 2) := dk_54 5 (dk_at dksJ10_getEntryUsingComparator_1 10 rfl rfl)
theorem dJ10_getEntryUsingComparator_36 : decode cJ10_getEntryUsingComparator 36 = .ok (.iload 5, 2) := dk_21 5 (dk_at dksJ10_getEntryUsingComparator_1 12 rfl rfl)
theorem dJ10_getEntryUsingComparator_38 : decode cJ10_getEntryUsingComparator 38 = .ok (.ifCond .ge 13, 3) := dk_156 0 13 (dk_at dksJ10_getEntryUsingComparator_1 14 rfl rfl)
theorem dJ10_getEntryUsingComparator_41 : decode cJ10_getEntryUsingComparator 41 = .ok (.aload 4, 2) := dk_25 4 (dk_at dksJ10_getEntryUsingComparator_1 17 rfl rfl)
theorem dJ10_getEntryUsingComparator_43 : decode cJ10_getEntryUsingComparator 43 = .ok (.getfield 111, 3) := dk_180 0 111 (dk_at dksJ10_getEntryUsingComparator_1 19 rfl rfl)
theorem dJ10_getEntryUsingComparator_46 : decode cJ10_getEntryUsingComparator 46 = .ok (.astore 4, 2) := dk_58 4 (dk_at dksJ10_getEntryUsingComparator_1 22 rfl rfl)
theorem dJ10_getEntryUsingComparator_48 : decode cJ10_getEntryUsingComparator 48 = .ok (.goto 21, 3) := dk_167 0 21 (dk_at dksJ10_getEntryUsingComparator_2 0 rfl rfl)
theorem dJ10_getEntryUsingComparator_51 : decode cJ10_getEntryUsingComparator 51 = .ok (.iload 5, 2) := dk_21 5 (dk_at dksJ10_getEntryUsingComparator_2 3 rfl rfl)
theorem dJ10_getEntryUsingComparator_53 : decode cJ10_getEntryUsingComparator 53 = .ok (.ifCond .le 13, 3) := dk_158 0 13 (dk_at dksJ10_getEntryUsingComparator_2 5 rfl rfl)
theorem dJ10_getEntryUsingComparator_56 : decode cJ10_getEntryUsingComparator 56 = .ok (.aload 4, 2) := dk_25 4 (dk_at dksJ10_getEntryUsingComparator_2 8 rfl rfl)
theorem dJ10_getEntryUsingComparator_58 : decode cJ10_getEntryUsingComparator 58 = .ok (.getfield 114, 3) := dk_180 0 114 (dk_at dksJ10_getEntryUsingComparator_2 10 rfl rfl)
theorem dJ10_getEntryUsingComparator_61 : decode cJ10_getEntryUsingComparator 61 = .ok (.astore 4, 2) := dk_58 4 (dk_at dksJ10_getEntryUsingComparator_2 13 rfl rfl)
theorem dJ10_getEntryUsingComparator_63 : decode cJ10_getEntryUsingComparator 63 = .ok (.goto 6, 3) := dk_167 0 6 (dk_at dksJ10_getEntryUsingComparator_2 15 rfl rfl)
theorem dJ10_getEntryUsingComparator_66 : decode cJ10_getEntryUsingComparator 66 = .ok (.aload 4, 2) := dk_25 4 (dk_at dksJ10_getEntryUsingComparator_2 18 rfl rfl)
theorem dJ10_getEntryUsingComparator_68 : decode cJ10_getEntryUsingComparator 68 = .ok (.areturn, 1) := dk_176 (dk_at dksJ10_getEntryUsingComparator_2 20 rfl rfl)
theorem dJ10_getEntryUsingComparator_69 : decode cJ10_getEntryUsingComparator 69 = .ok (.goto (-52), 3) := dk_167 255 204 (dk_at dksJ10_getEntryUsingComparator_2 21 rfl rfl)
theorem dJ10_getEntryUsingComparator_72 : decode cJ10_getEntryUsingComparator 72 = .ok (.aconst_null, 1) := dk_1 (dk_at dksJ10_getEntryUsingComparator_3 0 rfl rfl)
theorem dJ10_getEntryUsingComparator_73 : decode cJ10_getEntryUsingComparator 73 = .ok (.areturn, 1) := dk_176 (dk_at dksJ10_getEntryUsingComparator_3 1 rfl rfl)
abbrev cJ10_get : ByteArray := prog_87_method_8_code
def yJ10_get : MethodName := ⟨RJ10, "get", "(Ljava/lang/Object;)Ljava/lang/Object;"⟩
def dkwJ10_get_0 : List UInt8 := [42, 43, 182, 0, 50, 77, 44, 199, 0, 7, 1, 167, 0, 7, 44, 180, 0, 58, 176]
abbrev dktJ10_get_0 : List UInt8 := dkwJ10_get_0 ++ []
theorem dksJ10_get_0 : cJ10_get.data.toList.drop 0 = dktJ10_get_0 := by decide +kernel
theorem dJ10_get_0 : decode cJ10_get 0 = .ok (.aload_n 0, 1) := dk_42 (dk_at dksJ10_get_0 0 rfl rfl)
theorem dJ10_get_1 : decode cJ10_get 1 = .ok (.aload_n 1, 1) := dk_43 (dk_at dksJ10_get_0 1 rfl rfl)
theorem dJ10_get_2 : decode cJ10_get 2 = .ok (.invokevirtual 50, 3) := dk_182 0 50 (dk_at dksJ10_get_0 2 rfl rfl)
theorem dJ10_get_5 : decode cJ10_get 5 = .ok (.astore_n 2, 1) := dk_77 (dk_at dksJ10_get_0 5 rfl rfl)
theorem dJ10_get_6 : decode cJ10_get 6 = .ok (.aload_n 2, 1) := dk_44 (dk_at dksJ10_get_0 6 rfl rfl)
theorem dJ10_get_7 : decode cJ10_get 7 = .ok (.ifnonnull 7, 3) := dk_199 0 7 (dk_at dksJ10_get_0 7 rfl rfl)
theorem dJ10_get_10 : decode cJ10_get 10 = .ok (.aconst_null, 1) := dk_1 (dk_at dksJ10_get_0 10 rfl rfl)
theorem dJ10_get_11 : decode cJ10_get 11 = .ok (.goto 7, 3) := dk_167 0 7 (dk_at dksJ10_get_0 11 rfl rfl)
theorem dJ10_get_14 : decode cJ10_get 14 = .ok (.aload_n 2, 1) := dk_44 (dk_at dksJ10_get_0 14 rfl rfl)
theorem dJ10_get_15 : decode cJ10_get 15 = .ok (.getfield 58, 3) := dk_180 0 58 (dk_at dksJ10_get_0 15 rfl rfl)
theorem dJ10_get_18 : decode cJ10_get 18 = .ok (.areturn, 1) := dk_176 (dk_at dksJ10_get_0 18 rfl rfl)
abbrev cJ10_init : ByteArray := prog_87_method_1_code
def yJ10_init : MethodName := ⟨RJ10, "<init>", "()V"⟩
def dkwJ10_init_0 : List UInt8 := [42, 183, 0, 1, 42, 3, 181, 0, 7, 42, 3, 181, 0, 13, 42, 1, 181, 0, 16, 177]
abbrev dktJ10_init_0 : List UInt8 := dkwJ10_init_0 ++ []
theorem dksJ10_init_0 : cJ10_init.data.toList.drop 0 = dktJ10_init_0 := by decide +kernel
theorem dJ10_init_0 : decode cJ10_init 0 = .ok (.aload_n 0, 1) := dk_42 (dk_at dksJ10_init_0 0 rfl rfl)
theorem dJ10_init_1 : decode cJ10_init 1 = .ok (.invokespecial 1, 3) := dk_183 0 1 (dk_at dksJ10_init_0 1 rfl rfl)
theorem dJ10_init_4 : decode cJ10_init 4 = .ok (.aload_n 0, 1) := dk_42 (dk_at dksJ10_init_0 4 rfl rfl)
theorem dJ10_init_5 : decode cJ10_init 5 = .ok (.iconst 0, 1) := dk_3 (dk_at dksJ10_init_0 5 rfl rfl)
theorem dJ10_init_6 : decode cJ10_init 6 = .ok (.putfield 7, 3) := dk_181 0 7 (dk_at dksJ10_init_0 6 rfl rfl)
theorem dJ10_init_9 : decode cJ10_init 9 = .ok (.aload_n 0, 1) := dk_42 (dk_at dksJ10_init_0 9 rfl rfl)
theorem dJ10_init_10 : decode cJ10_init 10 = .ok (.iconst 0, 1) := dk_3 (dk_at dksJ10_init_0 10 rfl rfl)
theorem dJ10_init_11 : decode cJ10_init 11 = .ok (.putfield 13, 3) := dk_181 0 13 (dk_at dksJ10_init_0 11 rfl rfl)
theorem dJ10_init_14 : decode cJ10_init 14 = .ok (.aload_n 0, 1) := dk_42 (dk_at dksJ10_init_0 14 rfl rfl)
theorem dJ10_init_15 : decode cJ10_init 15 = .ok (.aconst_null, 1) := dk_1 (dk_at dksJ10_init_0 15 rfl rfl)
theorem dJ10_init_16 : decode cJ10_init 16 = .ok (.putfield 16, 3) := dk_181 0 16 (dk_at dksJ10_init_0 16 rfl rfl)
theorem dJ10_init_19 : decode cJ10_init 19 = .ok (.return_, 1) := dk_177 (dk_at dksJ10_init_0 19 rfl rfl)
abbrev cJ10_put : ByteArray := prog_87_method_21_code
def yJ10_put : MethodName := ⟨RJ10, "put", "(Ljava/lang/Object;Ljava/lang/Object;)Ljava/lang/Object;"⟩
def dkwJ10_put_0 : List UInt8 := [42, 43, 44, 4, 182, 0, 127, 176]
abbrev dktJ10_put_0 : List UInt8 := dkwJ10_put_0 ++ []
theorem dksJ10_put_0 : cJ10_put.data.toList.drop 0 = dktJ10_put_0 := by decide +kernel
theorem dJ10_put_0 : decode cJ10_put 0 = .ok (.aload_n 0, 1) := dk_42 (dk_at dksJ10_put_0 0 rfl rfl)
theorem dJ10_put_1 : decode cJ10_put 1 = .ok (.aload_n 1, 1) := dk_43 (dk_at dksJ10_put_0 1 rfl rfl)
theorem dJ10_put_2 : decode cJ10_put 2 = .ok (.aload_n 2, 1) := dk_44 (dk_at dksJ10_put_0 2 rfl rfl)
theorem dJ10_put_3 : decode cJ10_put 3 = .ok (.iconst 1, 1) := dk_4 (dk_at dksJ10_put_0 3 rfl rfl)
theorem dJ10_put_4 : decode cJ10_put 4 = .ok (.invokevirtual 127, 3) := dk_182 0 127 (dk_at dksJ10_put_0 4 rfl rfl)
theorem dJ10_put_7 : decode cJ10_put 7 = .ok (.areturn, 1) := dk_176 (dk_at dksJ10_put_0 7 rfl rfl)
abbrev cJ10_put_2 : ByteArray := prog_87_method_31_code
def yJ10_put_2 : MethodName := ⟨RJ10, "put", "(Ljava/lang/Object;Ljava/lang/Object;Z)Ljava/lang/Object;"⟩
def dkwJ10_put_2_9 : List UInt8 := [4, 167, 0, 4, 3, 182, 0, 139, 1, 176]
abbrev dktJ10_put_2_9 : List UInt8 := dkwJ10_put_2_9 ++ []
def dkwJ10_put_2_8 : List UInt8 := [25, 4, 44, 181, 0, 58, 25, 9, 176, 25, 4, 199, 255, 181, 42, 43, 44, 25, 6, 21, 5, 156, 0, 7]
abbrev dktJ10_put_2_8 : List UInt8 := dkwJ10_put_2_8 ++ dktJ10_put_2_9
def dkwJ10_put_2_7 : List UInt8 := [180, 0, 114, 58, 4, 167, 0, 28, 25, 4, 180, 0, 58, 58, 9, 29, 154, 0, 8, 25, 9, 199, 0, 9]
abbrev dktJ10_put_2_7 : List UInt8 := dkwJ10_put_2_7 ++ dktJ10_put_2_8
def dkwJ10_put_2_6 : List UInt8 := [21, 5, 156, 0, 13, 25, 4, 180, 0, 111, 58, 4, 167, 0, 43, 21, 5, 158, 0, 13, 25, 4]
abbrev dktJ10_put_2_6 : List UInt8 := dkwJ10_put_2_6 ++ dktJ10_put_2_7
def dkwJ10_put_2_5 : List UInt8 := [192, 0, 99, 58, 8, 25, 4, 58, 6, 25, 8, 25, 4, 180, 0, 105, 185, 0, 107, 2, 0, 54, 5]
abbrev dktJ10_put_2_5 : List UInt8 := dkwJ10_put_2_5 ++ dktJ10_put_2_6
def dkwJ10_put_2_4 : List UInt8 := [25, 4, 44, 181, 0, 58, 25, 8, 176, 25, 4, 199, 255, 180, 167, 0, 92, 43, 184, 0, 95, 87, 43]
abbrev dktJ10_put_2_4 : List UInt8 := dkwJ10_put_2_4 ++ dktJ10_put_2_5
def dkwJ10_put_2_3 : List UInt8 := [180, 0, 114, 58, 4, 167, 0, 28, 25, 4, 180, 0, 58, 58, 8, 29, 154, 0, 8, 25, 8, 199, 0, 9]
abbrev dktJ10_put_2_3 : List UInt8 := dkwJ10_put_2_3 ++ dktJ10_put_2_4
def dkwJ10_put_2_2 : List UInt8 := [54, 5, 21, 5, 156, 0, 13, 25, 4, 180, 0, 111, 58, 4, 167, 0, 43, 21, 5, 158, 0, 13, 25, 4]
abbrev dktJ10_put_2_2 : List UInt8 := dkwJ10_put_2_2 ++ dktJ10_put_2_3
def dkwJ10_put_2_1 : List UInt8 := [58, 7, 25, 7, 198, 0, 85, 25, 4, 58, 6, 25, 7, 43, 25, 4, 180, 0, 105, 185, 0, 117, 3, 0]
abbrev dktJ10_put_2_1 : List UInt8 := dkwJ10_put_2_1 ++ dktJ10_put_2_2
def dkwJ10_put_2_0 : List UInt8 := [42, 180, 0, 101, 58, 4, 25, 4, 199, 0, 11, 42, 43, 44, 182, 0, 135, 1, 176, 42, 180, 0, 16]
abbrev dktJ10_put_2_0 : List UInt8 := dkwJ10_put_2_0 ++ dktJ10_put_2_1
theorem dksJ10_put_2_0 : cJ10_put_2.data.toList.drop 0 = dktJ10_put_2_0 := by decide +kernel
theorem dksJ10_put_2_1 : cJ10_put_2.data.toList.drop 23 = dktJ10_put_2_1 := dk_seg dksJ10_put_2_0 23 rfl rfl
theorem dksJ10_put_2_2 : cJ10_put_2.data.toList.drop 47 = dktJ10_put_2_2 := dk_seg dksJ10_put_2_1 24 rfl rfl
theorem dksJ10_put_2_3 : cJ10_put_2.data.toList.drop 71 = dktJ10_put_2_3 := dk_seg dksJ10_put_2_2 24 rfl rfl
theorem dksJ10_put_2_4 : cJ10_put_2.data.toList.drop 95 = dktJ10_put_2_4 := dk_seg dksJ10_put_2_3 24 rfl rfl
theorem dksJ10_put_2_5 : cJ10_put_2.data.toList.drop 118 = dktJ10_put_2_5 := dk_seg dksJ10_put_2_4 23 rfl rfl
theorem dksJ10_put_2_6 : cJ10_put_2.data.toList.drop 141 = dktJ10_put_2_6 := dk_seg dksJ10_put_2_5 23 rfl rfl
theorem dksJ10_put_2_7 : cJ10_put_2.data.toList.drop 163 = dktJ10_put_2_7 := dk_seg dksJ10_put_2_6 22 rfl rfl
theorem dksJ10_put_2_8 : cJ10_put_2.data.toList.drop 187 = dktJ10_put_2_8 := dk_seg dksJ10_put_2_7 24 rfl rfl
theorem dksJ10_put_2_9 : cJ10_put_2.data.toList.drop 211 = dktJ10_put_2_9 := dk_seg dksJ10_put_2_8 24 rfl rfl
theorem dJ10_put_2_0 : decode cJ10_put_2 0 = .ok (.aload_n 0, 1) := dk_42 (dk_at dksJ10_put_2_0 0 rfl rfl)
theorem dJ10_put_2_1 : decode cJ10_put_2 1 = .ok (.getfield 101, 3) := dk_180 0 101 (dk_at dksJ10_put_2_0 1 rfl rfl)
theorem dJ10_put_2_4 : decode cJ10_put_2 4 = .ok (.astore 4, 2) := dk_58 4 (dk_at dksJ10_put_2_0 4 rfl rfl)
theorem dJ10_put_2_6 : decode cJ10_put_2 6 = .ok (.aload 4, 2) := dk_25 4 (dk_at dksJ10_put_2_0 6 rfl rfl)
theorem dJ10_put_2_8 : decode cJ10_put_2 8 = .ok (.ifnonnull 11, 3) := dk_199 0 11 (dk_at dksJ10_put_2_0 8 rfl rfl)
theorem dJ10_put_2_11 : decode cJ10_put_2 11 = .ok (.aload_n 0, 1) := dk_42 (dk_at dksJ10_put_2_0 11 rfl rfl)
theorem dJ10_put_2_12 : decode cJ10_put_2 12 = .ok (.aload_n 1, 1) := dk_43 (dk_at dksJ10_put_2_0 12 rfl rfl)
theorem dJ10_put_2_13 : decode cJ10_put_2 13 = .ok (.aload_n 2, 1) := dk_44 (dk_at dksJ10_put_2_0 13 rfl rfl)
theorem dJ10_put_2_14 : decode cJ10_put_2 14 = .ok (.invokevirtual 135, 3) := dk_182 0 135 (dk_at dksJ10_put_2_0 14 rfl rfl)
theorem dJ10_put_2_17 : decode cJ10_put_2 17 = .ok (.aconst_null, 1) := dk_1 (dk_at dksJ10_put_2_0 17 rfl rfl)
theorem dJ10_put_2_18 : decode cJ10_put_2 18 = .ok (.areturn, 1) := dk_176 (dk_at dksJ10_put_2_0 18 rfl rfl)
theorem dJ10_put_2_19 : decode cJ10_put_2 19 = .ok (.aload_n 0, 1) := dk_42 (dk_at dksJ10_put_2_0 19 rfl rfl)
theorem dJ10_put_2_20 : decode cJ10_put_2 20 = .ok (.getfield 16, 3) := dk_180 0 16 (dk_at dksJ10_put_2_0 20 rfl rfl)
theorem dJ10_put_2_23 : decode cJ10_put_2 23 = .ok (.astore 7, 2) := dk_58 7 (dk_at dksJ10_put_2_1 0 rfl rfl)
theorem dJ10_put_2_25 : decode cJ10_put_2 25 = .ok (.aload 7, 2) := dk_25 7 (dk_at dksJ10_put_2_1 2 rfl rfl)
theorem dJ10_put_2_27 : decode cJ10_put_2 27 = .ok (.ifnull 85, 3) := dk_198 0 85 (dk_at dksJ10_put_2_1 4 rfl rfl)
theorem dJ10_put_2_30 : decode cJ10_put_2 30 = .ok (.aload 4, 2) := dk_25 4 (dk_at dksJ10_put_2_1 7 rfl rfl)
theorem dJ10_put_2_32 : decode cJ10_put_2 32 = .ok (.astore 6, 2) := dk_58 6 (dk_at dksJ10_put_2_1 9 rfl rfl)
theorem dJ10_put_2_34 : decode cJ10_put_2 34 = .ok (.aload 7, 2) := dk_25 7 (dk_at dksJ10_put_2_1 11 rfl rfl)
theorem dJ10_put_2_36 : decode cJ10_put_2 36 = .ok (.aload_n 1, 1) := dk_43 (dk_at dksJ10_put_2_1 13 rfl rfl)
theorem dJ10_put_2_37 : decode cJ10_put_2 37 = .ok (.aload 4, 2) := dk_25 4 (dk_at dksJ10_put_2_1 14 rfl rfl)
theorem dJ10_put_2_39 : decode cJ10_put_2 39 = .ok (.getfield 105, 3) := dk_180 0 105 (dk_at dksJ10_put_2_1 16 rfl rfl)
theorem dJ10_put_2_42 : decode cJ10_put_2 42 = .ok (.invokeinterface 117 3, 5) := by decide +kernel
theorem dJ10_put_2_47 : decode cJ10_put_2 47 = .ok (.istore 5, 2) := dk_54 5 (dk_at dksJ10_put_2_2 0 rfl rfl)
theorem dJ10_put_2_49 : decode cJ10_put_2 49 = .ok (.iload 5, 2) := dk_21 5 (dk_at dksJ10_put_2_2 2 rfl rfl)
theorem dJ10_put_2_51 : decode cJ10_put_2 51 = .ok (.ifCond .ge 13, 3) := dk_156 0 13 (dk_at dksJ10_put_2_2 4 rfl rfl)
theorem dJ10_put_2_54 : decode cJ10_put_2 54 = .ok (.aload 4, 2) := dk_25 4 (dk_at dksJ10_put_2_2 7 rfl rfl)
theorem dJ10_put_2_56 : decode cJ10_put_2 56 = .ok (.getfield 111, 3) := dk_180 0 111 (dk_at dksJ10_put_2_2 9 rfl rfl)
theorem dJ10_put_2_59 : decode cJ10_put_2 59 = .ok (.astore 4, 2) := dk_58 4 (dk_at dksJ10_put_2_2 12 rfl rfl)
theorem dJ10_put_2_61 : decode cJ10_put_2 61 = .ok (.goto 43, 3) := dk_167 0 43 (dk_at dksJ10_put_2_2 14 rfl rfl)
theorem dJ10_put_2_64 : decode cJ10_put_2 64 = .ok (.iload 5, 2) := dk_21 5 (dk_at dksJ10_put_2_2 17 rfl rfl)
theorem dJ10_put_2_66 : decode cJ10_put_2 66 = .ok (.ifCond .le 13, 3) := dk_158 0 13 (dk_at dksJ10_put_2_2 19 rfl rfl)
theorem dJ10_put_2_69 : decode cJ10_put_2 69 = .ok (.aload 4, 2) := dk_25 4 (dk_at dksJ10_put_2_2 22 rfl rfl)
theorem dJ10_put_2_71 : decode cJ10_put_2 71 = .ok (.getfield 114, 3) := dk_180 0 114 (dk_at dksJ10_put_2_3 0 rfl rfl)
theorem dJ10_put_2_74 : decode cJ10_put_2 74 = .ok (.astore 4, 2) := dk_58 4 (dk_at dksJ10_put_2_3 3 rfl rfl)
theorem dJ10_put_2_76 : decode cJ10_put_2 76 = .ok (.goto 28, 3) := dk_167 0 28 (dk_at dksJ10_put_2_3 5 rfl rfl)
theorem dJ10_put_2_79 : decode cJ10_put_2 79 = .ok (.aload 4, 2) := dk_25 4 (dk_at dksJ10_put_2_3 8 rfl rfl)
theorem dJ10_put_2_81 : decode cJ10_put_2 81 = .ok (.getfield 58, 3) := dk_180 0 58 (dk_at dksJ10_put_2_3 10 rfl rfl)
theorem dJ10_put_2_84 : decode cJ10_put_2 84 = .ok (.astore 8, 2) := dk_58 8 (dk_at dksJ10_put_2_3 13 rfl rfl)
theorem dJ10_put_2_86 : decode cJ10_put_2 86 = .ok (.iload_n 3, 1) := dk_29 (dk_at dksJ10_put_2_3 15 rfl rfl)
theorem dJ10_put_2_87 : decode cJ10_put_2 87 = .ok (.ifCond .ne 8, 3) := dk_154 0 8 (dk_at dksJ10_put_2_3 16 rfl rfl)
theorem dJ10_put_2_90 : decode cJ10_put_2 90 = .ok (.aload 8, 2) := dk_25 8 (dk_at dksJ10_put_2_3 19 rfl rfl)
theorem dJ10_put_2_92 : decode cJ10_put_2 92 = .ok (.ifnonnull 9, 3) := dk_199 0 9 (dk_at dksJ10_put_2_3 21 rfl rfl)
theorem dJ10_put_2_95 : decode cJ10_put_2 95 = .ok (.aload 4, 2) := dk_25 4 (dk_at dksJ10_put_2_4 0 rfl rfl)
theorem dJ10_put_2_97 : decode cJ10_put_2 97 = .ok (.aload_n 2, 1) := dk_44 (dk_at dksJ10_put_2_4 2 rfl rfl)
theorem dJ10_put_2_98 : decode cJ10_put_2 98 = .ok (.putfield 58, 3) := dk_181 0 58 (dk_at dksJ10_put_2_4 3 rfl rfl)
theorem dJ10_put_2_101 : decode cJ10_put_2 101 = .ok (.aload 8, 2) := dk_25 8 (dk_at dksJ10_put_2_4 6 rfl rfl)
theorem dJ10_put_2_103 : decode cJ10_put_2 103 = .ok (.areturn, 1) := dk_176 (dk_at dksJ10_put_2_4 8 rfl rfl)
theorem dJ10_put_2_104 : decode cJ10_put_2 104 = .ok (.aload 4, 2) := dk_25 4 (dk_at dksJ10_put_2_4 9 rfl rfl)
theorem dJ10_put_2_106 : decode cJ10_put_2 106 = .ok (.ifnonnull (-76), 3) := dk_199 255 180 (dk_at dksJ10_put_2_4 11 rfl rfl)
theorem dJ10_put_2_109 : decode cJ10_put_2 109 = .ok (.goto 92, 3) := dk_167 0 92 (dk_at dksJ10_put_2_4 14 rfl rfl)
theorem dJ10_put_2_112 : decode cJ10_put_2 112 = .ok (.aload_n 1, 1) := dk_43 (dk_at dksJ10_put_2_4 17 rfl rfl)
theorem dJ10_put_2_113 : decode cJ10_put_2 113 = .ok (.invokestatic 95, 3) := dk_184 0 95 (dk_at dksJ10_put_2_4 18 rfl rfl)
theorem dJ10_put_2_116 : decode cJ10_put_2 116 = .ok (.pop, 1) := dk_87 (dk_at dksJ10_put_2_4 21 rfl rfl)
theorem dJ10_put_2_117 : decode cJ10_put_2 117 = .ok (.aload_n 1, 1) := dk_43 (dk_at dksJ10_put_2_4 22 rfl rfl)
theorem dJ10_put_2_118 : decode cJ10_put_2 118 = .ok (.checkcast 99, 3) := dk_192 0 99 (dk_at dksJ10_put_2_5 0 rfl rfl)
theorem dJ10_put_2_121 : decode cJ10_put_2 121 = .ok (.astore 8, 2) := dk_58 8 (dk_at dksJ10_put_2_5 3 rfl rfl)
theorem dJ10_put_2_123 : decode cJ10_put_2 123 = .ok (.aload 4, 2) := dk_25 4 (dk_at dksJ10_put_2_5 5 rfl rfl)
theorem dJ10_put_2_125 : decode cJ10_put_2 125 = .ok (.astore 6, 2) := dk_58 6 (dk_at dksJ10_put_2_5 7 rfl rfl)
theorem dJ10_put_2_127 : decode cJ10_put_2 127 = .ok (.aload 8, 2) := dk_25 8 (dk_at dksJ10_put_2_5 9 rfl rfl)
theorem dJ10_put_2_129 : decode cJ10_put_2 129 = .ok (.aload 4, 2) := dk_25 4 (dk_at dksJ10_put_2_5 11 rfl rfl)
theorem dJ10_put_2_131 : decode cJ10_put_2 131 = .ok (.getfield 105, 3) := dk_180 0 105 (dk_at dksJ10_put_2_5 13 rfl rfl)
theorem dJ10_put_2_134 : decode cJ10_put_2 134 = .ok (.invokeinterface 107 2, 5) := by decide +kernel
theorem dJ10_put_2_139 : decode cJ10_put_2 139 = .ok (.istore 5, 2) := dk_54 5 (dk_at dksJ10_put_2_5 21 rfl rfl)
theorem dJ10_put_2_141 : decode cJ10_put_2 141 = .ok (.iload 5, 2) := dk_21 5 (dk_at dksJ10_put_2_6 0 rfl rfl)
theorem dJ10_put_2_143 : decode cJ10_put_2 143 = .ok (.ifCond .ge 13, 3) := dk_156 0 13 (dk_at dksJ10_put_2_6 2 rfl rfl)
theorem dJ10_put_2_146 : decode cJ10_put_2 146 = .ok (.aload 4, 2) := dk_25 4 (dk_at dksJ10_put_2_6 5 rfl rfl)
theorem dJ10_put_2_148 : decode cJ10_put_2 148 = .ok (.getfield 111, 3) := dk_180 0 111 (dk_at dksJ10_put_2_6 7 rfl rfl)
theorem dJ10_put_2_151 : decode cJ10_put_2 151 = .ok (.astore 4, 2) := dk_58 4 (dk_at dksJ10_put_2_6 10 rfl rfl)
theorem dJ10_put_2_153 : decode cJ10_put_2 153 = .ok (.goto 43, 3) := dk_167 0 43 (dk_at dksJ10_put_2_6 12 rfl rfl)
theorem dJ10_put_2_156 : decode cJ10_put_2 156 = .ok (.iload 5, 2) := dk_21 5 (dk_at dksJ10_put_2_6 15 rfl rfl)
theorem dJ10_put_2_158 : decode cJ10_put_2 158 = .ok (.ifCond .le 13, 3) := dk_158 0 13 (dk_at dksJ10_put_2_6 17 rfl rfl)
theorem dJ10_put_2_161 : decode cJ10_put_2 161 = .ok (.aload 4, 2) := dk_25 4 (dk_at dksJ10_put_2_6 20 rfl rfl)
theorem dJ10_put_2_163 : decode cJ10_put_2 163 = .ok (.getfield 114, 3) := dk_180 0 114 (dk_at dksJ10_put_2_7 0 rfl rfl)
theorem dJ10_put_2_166 : decode cJ10_put_2 166 = .ok (.astore 4, 2) := dk_58 4 (dk_at dksJ10_put_2_7 3 rfl rfl)
theorem dJ10_put_2_168 : decode cJ10_put_2 168 = .ok (.goto 28, 3) := dk_167 0 28 (dk_at dksJ10_put_2_7 5 rfl rfl)
theorem dJ10_put_2_171 : decode cJ10_put_2 171 = .ok (.aload 4, 2) := dk_25 4 (dk_at dksJ10_put_2_7 8 rfl rfl)
theorem dJ10_put_2_173 : decode cJ10_put_2 173 = .ok (.getfield 58, 3) := dk_180 0 58 (dk_at dksJ10_put_2_7 10 rfl rfl)
theorem dJ10_put_2_176 : decode cJ10_put_2 176 = .ok (.astore 9, 2) := dk_58 9 (dk_at dksJ10_put_2_7 13 rfl rfl)
theorem dJ10_put_2_178 : decode cJ10_put_2 178 = .ok (.iload_n 3, 1) := dk_29 (dk_at dksJ10_put_2_7 15 rfl rfl)
theorem dJ10_put_2_179 : decode cJ10_put_2 179 = .ok (.ifCond .ne 8, 3) := dk_154 0 8 (dk_at dksJ10_put_2_7 16 rfl rfl)
theorem dJ10_put_2_182 : decode cJ10_put_2 182 = .ok (.aload 9, 2) := dk_25 9 (dk_at dksJ10_put_2_7 19 rfl rfl)
theorem dJ10_put_2_184 : decode cJ10_put_2 184 = .ok (.ifnonnull 9, 3) := dk_199 0 9 (dk_at dksJ10_put_2_7 21 rfl rfl)
theorem dJ10_put_2_187 : decode cJ10_put_2 187 = .ok (.aload 4, 2) := dk_25 4 (dk_at dksJ10_put_2_8 0 rfl rfl)
theorem dJ10_put_2_189 : decode cJ10_put_2 189 = .ok (.aload_n 2, 1) := dk_44 (dk_at dksJ10_put_2_8 2 rfl rfl)
theorem dJ10_put_2_190 : decode cJ10_put_2 190 = .ok (.putfield 58, 3) := dk_181 0 58 (dk_at dksJ10_put_2_8 3 rfl rfl)
theorem dJ10_put_2_193 : decode cJ10_put_2 193 = .ok (.aload 9, 2) := dk_25 9 (dk_at dksJ10_put_2_8 6 rfl rfl)
theorem dJ10_put_2_195 : decode cJ10_put_2 195 = .ok (.areturn, 1) := dk_176 (dk_at dksJ10_put_2_8 8 rfl rfl)
theorem dJ10_put_2_196 : decode cJ10_put_2 196 = .ok (.aload 4, 2) := dk_25 4 (dk_at dksJ10_put_2_8 9 rfl rfl)
theorem dJ10_put_2_198 : decode cJ10_put_2 198 = .ok (.ifnonnull (-75), 3) := dk_199 255 181 (dk_at dksJ10_put_2_8 11 rfl rfl)
theorem dJ10_put_2_201 : decode cJ10_put_2 201 = .ok (.aload_n 0, 1) := dk_42 (dk_at dksJ10_put_2_8 14 rfl rfl)
theorem dJ10_put_2_202 : decode cJ10_put_2 202 = .ok (.aload_n 1, 1) := dk_43 (dk_at dksJ10_put_2_8 15 rfl rfl)
theorem dJ10_put_2_203 : decode cJ10_put_2 203 = .ok (.aload_n 2, 1) := dk_44 (dk_at dksJ10_put_2_8 16 rfl rfl)
theorem dJ10_put_2_204 : decode cJ10_put_2 204 = .ok (.aload 6, 2) := dk_25 6 (dk_at dksJ10_put_2_8 17 rfl rfl)
theorem dJ10_put_2_206 : decode cJ10_put_2 206 = .ok (.iload 5, 2) := dk_21 5 (dk_at dksJ10_put_2_8 19 rfl rfl)
theorem dJ10_put_2_208 : decode cJ10_put_2 208 = .ok (.ifCond .ge 7, 3) := dk_156 0 7 (dk_at dksJ10_put_2_8 21 rfl rfl)
theorem dJ10_put_2_211 : decode cJ10_put_2 211 = .ok (.iconst 1, 1) := dk_4 (dk_at dksJ10_put_2_9 0 rfl rfl)
theorem dJ10_put_2_212 : decode cJ10_put_2 212 = .ok (.goto 4, 3) := dk_167 0 4 (dk_at dksJ10_put_2_9 1 rfl rfl)
theorem dJ10_put_2_215 : decode cJ10_put_2 215 = .ok (.iconst 0, 1) := dk_3 (dk_at dksJ10_put_2_9 4 rfl rfl)
theorem dJ10_put_2_216 : decode cJ10_put_2 216 = .ok (.invokevirtual 139, 3) := dk_182 0 139 (dk_at dksJ10_put_2_9 5 rfl rfl)
theorem dJ10_put_2_219 : decode cJ10_put_2 219 = .ok (.aconst_null, 1) := dk_1 (dk_at dksJ10_put_2_9 8 rfl rfl)
theorem dJ10_put_2_220 : decode cJ10_put_2 220 = .ok (.areturn, 1) := dk_176 (dk_at dksJ10_put_2_9 9 rfl rfl)
abbrev cJ10_addEntryToEmptyMap : ByteArray := prog_87_method_30_code
def yJ10_addEntryToEmptyMap : MethodName := ⟨RJ10, "addEntryToEmptyMap", "(Ljava/lang/Object;Ljava/lang/Object;)V"⟩
def dkwJ10_addEntryToEmptyMap_1 : List UInt8 := [181, 0, 7, 42, 89, 180, 0, 13, 4, 96, 181, 0, 13, 177]
abbrev dktJ10_addEntryToEmptyMap_1 : List UInt8 := dkwJ10_addEntryToEmptyMap_1 ++ []
def dkwJ10_addEntryToEmptyMap_0 : List UInt8 := [42, 43, 43, 182, 0, 123, 87, 42, 187, 0, 59, 89, 43, 44, 1, 183, 0, 167, 181, 0, 101, 42, 4]
abbrev dktJ10_addEntryToEmptyMap_0 : List UInt8 := dkwJ10_addEntryToEmptyMap_0 ++ dktJ10_addEntryToEmptyMap_1
theorem dksJ10_addEntryToEmptyMap_0 : cJ10_addEntryToEmptyMap.data.toList.drop 0 = dktJ10_addEntryToEmptyMap_0 := by decide +kernel
theorem dksJ10_addEntryToEmptyMap_1 : cJ10_addEntryToEmptyMap.data.toList.drop 23 = dktJ10_addEntryToEmptyMap_1 := dk_seg dksJ10_addEntryToEmptyMap_0 23 rfl rfl
theorem dJ10_addEntryToEmptyMap_0 : decode cJ10_addEntryToEmptyMap 0 = .ok (.aload_n 0, 1) := dk_42 (dk_at dksJ10_addEntryToEmptyMap_0 0 rfl rfl)
theorem dJ10_addEntryToEmptyMap_1 : decode cJ10_addEntryToEmptyMap 1 = .ok (.aload_n 1, 1) := dk_43 (dk_at dksJ10_addEntryToEmptyMap_0 1 rfl rfl)
theorem dJ10_addEntryToEmptyMap_2 : decode cJ10_addEntryToEmptyMap 2 = .ok (.aload_n 1, 1) := dk_43 (dk_at dksJ10_addEntryToEmptyMap_0 2 rfl rfl)
theorem dJ10_addEntryToEmptyMap_3 : decode cJ10_addEntryToEmptyMap 3 = .ok (.invokevirtual 123, 3) := dk_182 0 123 (dk_at dksJ10_addEntryToEmptyMap_0 3 rfl rfl)
theorem dJ10_addEntryToEmptyMap_6 : decode cJ10_addEntryToEmptyMap 6 = .ok (.pop, 1) := dk_87 (dk_at dksJ10_addEntryToEmptyMap_0 6 rfl rfl)
theorem dJ10_addEntryToEmptyMap_7 : decode cJ10_addEntryToEmptyMap 7 = .ok (.aload_n 0, 1) := dk_42 (dk_at dksJ10_addEntryToEmptyMap_0 7 rfl rfl)
theorem dJ10_addEntryToEmptyMap_8 : decode cJ10_addEntryToEmptyMap 8 = .ok (.new 59, 3) := dk_187 0 59 (dk_at dksJ10_addEntryToEmptyMap_0 8 rfl rfl)
theorem dJ10_addEntryToEmptyMap_11 : decode cJ10_addEntryToEmptyMap 11 = .ok (.dup, 1) := dk_89 (dk_at dksJ10_addEntryToEmptyMap_0 11 rfl rfl)
theorem dJ10_addEntryToEmptyMap_12 : decode cJ10_addEntryToEmptyMap 12 = .ok (.aload_n 1, 1) := dk_43 (dk_at dksJ10_addEntryToEmptyMap_0 12 rfl rfl)
theorem dJ10_addEntryToEmptyMap_13 : decode cJ10_addEntryToEmptyMap 13 = .ok (.aload_n 2, 1) := dk_44 (dk_at dksJ10_addEntryToEmptyMap_0 13 rfl rfl)
theorem dJ10_addEntryToEmptyMap_14 : decode cJ10_addEntryToEmptyMap 14 = .ok (.aconst_null, 1) := dk_1 (dk_at dksJ10_addEntryToEmptyMap_0 14 rfl rfl)
theorem dJ10_addEntryToEmptyMap_15 : decode cJ10_addEntryToEmptyMap 15 = .ok (.invokespecial 167, 3) := dk_183 0 167 (dk_at dksJ10_addEntryToEmptyMap_0 15 rfl rfl)
theorem dJ10_addEntryToEmptyMap_18 : decode cJ10_addEntryToEmptyMap 18 = .ok (.putfield 101, 3) := dk_181 0 101 (dk_at dksJ10_addEntryToEmptyMap_0 18 rfl rfl)
theorem dJ10_addEntryToEmptyMap_21 : decode cJ10_addEntryToEmptyMap 21 = .ok (.aload_n 0, 1) := dk_42 (dk_at dksJ10_addEntryToEmptyMap_0 21 rfl rfl)
theorem dJ10_addEntryToEmptyMap_22 : decode cJ10_addEntryToEmptyMap 22 = .ok (.iconst 1, 1) := dk_4 (dk_at dksJ10_addEntryToEmptyMap_0 22 rfl rfl)
theorem dJ10_addEntryToEmptyMap_23 : decode cJ10_addEntryToEmptyMap 23 = .ok (.putfield 7, 3) := dk_181 0 7 (dk_at dksJ10_addEntryToEmptyMap_1 0 rfl rfl)
theorem dJ10_addEntryToEmptyMap_26 : decode cJ10_addEntryToEmptyMap 26 = .ok (.aload_n 0, 1) := dk_42 (dk_at dksJ10_addEntryToEmptyMap_1 3 rfl rfl)
theorem dJ10_addEntryToEmptyMap_27 : decode cJ10_addEntryToEmptyMap 27 = .ok (.dup, 1) := dk_89 (dk_at dksJ10_addEntryToEmptyMap_1 4 rfl rfl)
theorem dJ10_addEntryToEmptyMap_28 : decode cJ10_addEntryToEmptyMap 28 = .ok (.getfield 13, 3) := dk_180 0 13 (dk_at dksJ10_addEntryToEmptyMap_1 5 rfl rfl)
theorem dJ10_addEntryToEmptyMap_31 : decode cJ10_addEntryToEmptyMap 31 = .ok (.iconst 1, 1) := dk_4 (dk_at dksJ10_addEntryToEmptyMap_1 8 rfl rfl)
theorem dJ10_addEntryToEmptyMap_32 : decode cJ10_addEntryToEmptyMap 32 = .ok (.iadd, 1) := dk_96 (dk_at dksJ10_addEntryToEmptyMap_1 9 rfl rfl)
theorem dJ10_addEntryToEmptyMap_33 : decode cJ10_addEntryToEmptyMap 33 = .ok (.putfield 13, 3) := dk_181 0 13 (dk_at dksJ10_addEntryToEmptyMap_1 10 rfl rfl)
theorem dJ10_addEntryToEmptyMap_36 : decode cJ10_addEntryToEmptyMap 36 = .ok (.return_, 1) := dk_177 (dk_at dksJ10_addEntryToEmptyMap_1 13 rfl rfl)
abbrev cJ10_compare : ByteArray := prog_87_method_67_code
def yJ10_compare : MethodName := ⟨RJ10, "compare", "(Ljava/lang/Object;Ljava/lang/Object;)I"⟩
def dkwJ10_compare_1 : List UInt8 := [43, 44, 185, 0, 117, 3, 0, 172]
abbrev dktJ10_compare_1 : List UInt8 := dkwJ10_compare_1 ++ []
def dkwJ10_compare_0 : List UInt8 := [42, 180, 0, 16, 199, 0, 16, 43, 192, 0, 99, 44, 185, 0, 107, 2, 0, 167, 0, 14, 42, 180, 0, 16]
abbrev dktJ10_compare_0 : List UInt8 := dkwJ10_compare_0 ++ dktJ10_compare_1
theorem dksJ10_compare_0 : cJ10_compare.data.toList.drop 0 = dktJ10_compare_0 := by decide +kernel
theorem dksJ10_compare_1 : cJ10_compare.data.toList.drop 24 = dktJ10_compare_1 := dk_seg dksJ10_compare_0 24 rfl rfl
theorem dJ10_compare_0 : decode cJ10_compare 0 = .ok (.aload_n 0, 1) := dk_42 (dk_at dksJ10_compare_0 0 rfl rfl)
theorem dJ10_compare_1 : decode cJ10_compare 1 = .ok (.getfield 16, 3) := dk_180 0 16 (dk_at dksJ10_compare_0 1 rfl rfl)
theorem dJ10_compare_4 : decode cJ10_compare 4 = .ok (.ifnonnull 16, 3) := dk_199 0 16 (dk_at dksJ10_compare_0 4 rfl rfl)
theorem dJ10_compare_7 : decode cJ10_compare 7 = .ok (.aload_n 1, 1) := dk_43 (dk_at dksJ10_compare_0 7 rfl rfl)
theorem dJ10_compare_8 : decode cJ10_compare 8 = .ok (.checkcast 99, 3) := dk_192 0 99 (dk_at dksJ10_compare_0 8 rfl rfl)
theorem dJ10_compare_11 : decode cJ10_compare 11 = .ok (.aload_n 2, 1) := dk_44 (dk_at dksJ10_compare_0 11 rfl rfl)
theorem dJ10_compare_12 : decode cJ10_compare 12 = .ok (.invokeinterface 107 2, 5) := by decide +kernel
theorem dJ10_compare_17 : decode cJ10_compare 17 = .ok (.goto 14, 3) := dk_167 0 14 (dk_at dksJ10_compare_0 17 rfl rfl)
theorem dJ10_compare_20 : decode cJ10_compare 20 = .ok (.aload_n 0, 1) := dk_42 (dk_at dksJ10_compare_0 20 rfl rfl)
theorem dJ10_compare_21 : decode cJ10_compare 21 = .ok (.getfield 16, 3) := dk_180 0 16 (dk_at dksJ10_compare_0 21 rfl rfl)
theorem dJ10_compare_24 : decode cJ10_compare 24 = .ok (.aload_n 1, 1) := dk_43 (dk_at dksJ10_compare_1 0 rfl rfl)
theorem dJ10_compare_25 : decode cJ10_compare 25 = .ok (.aload_n 2, 1) := dk_44 (dk_at dksJ10_compare_1 1 rfl rfl)
theorem dJ10_compare_26 : decode cJ10_compare 26 = .ok (.invokeinterface 117 3, 5) := by decide +kernel
theorem dJ10_compare_31 : decode cJ10_compare 31 = .ok (.ireturn, 1) := dk_172 (dk_at dksJ10_compare_1 7 rfl rfl)
abbrev cJ10_addEntry : ByteArray := prog_87_method_29_code
def yJ10_addEntry : MethodName := ⟨RJ10, "addEntry", "(Ljava/lang/Object;Ljava/lang/Object;Ljava/util/TreeMap$Entry;Z)V"⟩
def dkwJ10_addEntry_2 : List UInt8 := [181, 0, 7, 42, 89, 180, 0, 13, 4, 96, 181, 0, 13, 177]
abbrev dktJ10_addEntry_2 : List UInt8 := dkwJ10_addEntry_2 ++ []
def dkwJ10_addEntry_1 : List UInt8 := [167, 0, 9, 45, 25, 5, 181, 0, 114, 42, 25, 5, 182, 0, 170, 42, 89, 180, 0, 7, 4, 96]
abbrev dktJ10_addEntry_1 : List UInt8 := dkwJ10_addEntry_1 ++ dktJ10_addEntry_2
def dkwJ10_addEntry_0 : List UInt8 := [187, 0, 59, 89, 43, 44, 45, 183, 0, 167, 58, 5, 21, 4, 153, 0, 12, 45, 25, 5, 181, 0, 111]
abbrev dktJ10_addEntry_0 : List UInt8 := dkwJ10_addEntry_0 ++ dktJ10_addEntry_1
theorem dksJ10_addEntry_0 : cJ10_addEntry.data.toList.drop 0 = dktJ10_addEntry_0 := by decide +kernel
theorem dksJ10_addEntry_1 : cJ10_addEntry.data.toList.drop 23 = dktJ10_addEntry_1 := dk_seg dksJ10_addEntry_0 23 rfl rfl
theorem dksJ10_addEntry_2 : cJ10_addEntry.data.toList.drop 45 = dktJ10_addEntry_2 := dk_seg dksJ10_addEntry_1 22 rfl rfl
theorem dJ10_addEntry_0 : decode cJ10_addEntry 0 = .ok (.new 59, 3) := dk_187 0 59 (dk_at dksJ10_addEntry_0 0 rfl rfl)
theorem dJ10_addEntry_3 : decode cJ10_addEntry 3 = .ok (.dup, 1) := dk_89 (dk_at dksJ10_addEntry_0 3 rfl rfl)
theorem dJ10_addEntry_4 : decode cJ10_addEntry 4 = .ok (.aload_n 1, 1) := dk_43 (dk_at dksJ10_addEntry_0 4 rfl rfl)
theorem dJ10_addEntry_5 : decode cJ10_addEntry 5 = .ok (.aload_n 2, 1) := dk_44 (dk_at dksJ10_addEntry_0 5 rfl rfl)
theorem dJ10_addEntry_6 : decode cJ10_addEntry 6 = .ok (.aload_n 3, 1) := dk_45 (dk_at dksJ10_addEntry_0 6 rfl rfl)
theorem dJ10_addEntry_7 : decode cJ10_addEntry 7 = .ok (.invokespecial 167, 3) := dk_183 0 167 (dk_at dksJ10_addEntry_0 7 rfl rfl)
theorem dJ10_addEntry_10 : decode cJ10_addEntry 10 = .ok (.astore 5, 2) := dk_58 5 (dk_at dksJ10_addEntry_0 10 rfl rfl)
theorem dJ10_addEntry_12 : decode cJ10_addEntry 12 = .ok (.iload 4, 2) := dk_21 4 (dk_at dksJ10_addEntry_0 12 rfl rfl)
theorem dJ10_addEntry_14 : decode cJ10_addEntry 14 = .ok (.ifCond .eq 12, 3) := dk_153 0 12 (dk_at dksJ10_addEntry_0 14 rfl rfl)
theorem dJ10_addEntry_17 : decode cJ10_addEntry 17 = .ok (.aload_n 3, 1) := dk_45 (dk_at dksJ10_addEntry_0 17 rfl rfl)
theorem dJ10_addEntry_18 : decode cJ10_addEntry 18 = .ok (.aload 5, 2) := dk_25 5 (dk_at dksJ10_addEntry_0 18 rfl rfl)
theorem dJ10_addEntry_20 : decode cJ10_addEntry 20 = .ok (.putfield 111, 3) := dk_181 0 111 (dk_at dksJ10_addEntry_0 20 rfl rfl)
theorem dJ10_addEntry_23 : decode cJ10_addEntry 23 = .ok (.goto 9, 3) := dk_167 0 9 (dk_at dksJ10_addEntry_1 0 rfl rfl)
theorem dJ10_addEntry_26 : decode cJ10_addEntry 26 = .ok (.aload_n 3, 1) := dk_45 (dk_at dksJ10_addEntry_1 3 rfl rfl)
theorem dJ10_addEntry_27 : decode cJ10_addEntry 27 = .ok (.aload 5, 2) := dk_25 5 (dk_at dksJ10_addEntry_1 4 rfl rfl)
theorem dJ10_addEntry_29 : decode cJ10_addEntry 29 = .ok (.putfield 114, 3) := dk_181 0 114 (dk_at dksJ10_addEntry_1 6 rfl rfl)
theorem dJ10_addEntry_32 : decode cJ10_addEntry 32 = .ok (.aload_n 0, 1) := dk_42 (dk_at dksJ10_addEntry_1 9 rfl rfl)
theorem dJ10_addEntry_33 : decode cJ10_addEntry 33 = .ok (.aload 5, 2) := dk_25 5 (dk_at dksJ10_addEntry_1 10 rfl rfl)
theorem dJ10_addEntry_35 : decode cJ10_addEntry 35 = .ok (.invokevirtual 170, 3) := dk_182 0 170 (dk_at dksJ10_addEntry_1 12 rfl rfl)
theorem dJ10_addEntry_38 : decode cJ10_addEntry 38 = .ok (.aload_n 0, 1) := dk_42 (dk_at dksJ10_addEntry_1 15 rfl rfl)
theorem dJ10_addEntry_39 : decode cJ10_addEntry 39 = .ok (.dup, 1) := dk_89 (dk_at dksJ10_addEntry_1 16 rfl rfl)
theorem dJ10_addEntry_40 : decode cJ10_addEntry 40 = .ok (.getfield 7, 3) := dk_180 0 7 (dk_at dksJ10_addEntry_1 17 rfl rfl)
theorem dJ10_addEntry_43 : decode cJ10_addEntry 43 = .ok (.iconst 1, 1) := dk_4 (dk_at dksJ10_addEntry_1 20 rfl rfl)
theorem dJ10_addEntry_44 : decode cJ10_addEntry 44 = .ok (.iadd, 1) := dk_96 (dk_at dksJ10_addEntry_1 21 rfl rfl)
theorem dJ10_addEntry_45 : decode cJ10_addEntry 45 = .ok (.putfield 7, 3) := dk_181 0 7 (dk_at dksJ10_addEntry_2 0 rfl rfl)
theorem dJ10_addEntry_48 : decode cJ10_addEntry 48 = .ok (.aload_n 0, 1) := dk_42 (dk_at dksJ10_addEntry_2 3 rfl rfl)
theorem dJ10_addEntry_49 : decode cJ10_addEntry 49 = .ok (.dup, 1) := dk_89 (dk_at dksJ10_addEntry_2 4 rfl rfl)
theorem dJ10_addEntry_50 : decode cJ10_addEntry 50 = .ok (.getfield 13, 3) := dk_180 0 13 (dk_at dksJ10_addEntry_2 5 rfl rfl)
theorem dJ10_addEntry_53 : decode cJ10_addEntry 53 = .ok (.iconst 1, 1) := dk_4 (dk_at dksJ10_addEntry_2 8 rfl rfl)
theorem dJ10_addEntry_54 : decode cJ10_addEntry 54 = .ok (.iadd, 1) := dk_96 (dk_at dksJ10_addEntry_2 9 rfl rfl)
theorem dJ10_addEntry_55 : decode cJ10_addEntry 55 = .ok (.putfield 13, 3) := dk_181 0 13 (dk_at dksJ10_addEntry_2 10 rfl rfl)
theorem dJ10_addEntry_58 : decode cJ10_addEntry 58 = .ok (.return_, 1) := dk_177 (dk_at dksJ10_addEntry_2 13 rfl rfl)
abbrev cJ10_fixAfterInsertion : ByteArray := prog_87_method_83_code
def yJ10_fixAfterInsertion : MethodName := ⟨RJ10, "fixAfterInsertion", "(Ljava/util/TreeMap$Entry;)V"⟩
def dkwJ10_fixAfterInsertion_11 : List UInt8 := [42, 180, 0, 101, 4, 181, 1, 34, 177]
abbrev dktJ10_fixAfterInsertion_11 : List UInt8 := dkwJ10_fixAfterInsertion_11 ++ []
def dkwJ10_fixAfterInsertion_10 : List UInt8 := [184, 1, 38, 184, 1, 38, 3, 184, 1, 51, 42, 43, 184, 1, 38, 184, 1, 38, 182, 1, 55, 167, 255, 6]
abbrev dktJ10_fixAfterInsertion_10 : List UInt8 := dkwJ10_fixAfterInsertion_10 ++ dktJ10_fixAfterInsertion_11
def dkwJ10_fixAfterInsertion_9 : List UInt8 := [166, 0, 13, 43, 184, 1, 38, 76, 42, 43, 182, 1, 58, 43, 184, 1, 38, 4, 184, 1, 51, 43]
abbrev dktJ10_fixAfterInsertion_9 : List UInt8 := dkwJ10_fixAfterInsertion_9 ++ dktJ10_fixAfterInsertion_10
def dkwJ10_fixAfterInsertion_8 : List UInt8 := [184, 1, 51, 43, 184, 1, 38, 184, 1, 38, 76, 167, 0, 54, 43, 43, 184, 1, 38, 184, 1, 41]
abbrev dktJ10_fixAfterInsertion_8 : List UInt8 := dkwJ10_fixAfterInsertion_8 ++ dktJ10_fixAfterInsertion_9
def dkwJ10_fixAfterInsertion_7 : List UInt8 := [154, 0, 38, 43, 184, 1, 38, 4, 184, 1, 51, 44, 4, 184, 1, 51, 43, 184, 1, 38, 184, 1, 38, 3]
abbrev dktJ10_fixAfterInsertion_7 : List UInt8 := dkwJ10_fixAfterInsertion_7 ++ dktJ10_fixAfterInsertion_8
def dkwJ10_fixAfterInsertion_6 : List UInt8 := [184, 1, 38, 182, 1, 58, 167, 255, 113, 43, 184, 1, 38, 184, 1, 38, 184, 1, 41, 77, 44, 184, 1, 47]
abbrev dktJ10_fixAfterInsertion_6 : List UInt8 := dkwJ10_fixAfterInsertion_6 ++ dktJ10_fixAfterInsertion_7
def dkwJ10_fixAfterInsertion_5 : List UInt8 := [43, 184, 1, 38, 4, 184, 1, 51, 43, 184, 1, 38, 184, 1, 38, 3, 184, 1, 51, 42, 43, 184, 1, 38]
abbrev dktJ10_fixAfterInsertion_5 : List UInt8 := dkwJ10_fixAfterInsertion_5 ++ dktJ10_fixAfterInsertion_6
def dkwJ10_fixAfterInsertion_4 : List UInt8 := [167, 0, 54, 43, 43, 184, 1, 38, 184, 1, 44, 166, 0, 13, 43, 184, 1, 38, 76, 42, 43, 182, 1, 55]
abbrev dktJ10_fixAfterInsertion_4 : List UInt8 := dkwJ10_fixAfterInsertion_4 ++ dktJ10_fixAfterInsertion_5
def dkwJ10_fixAfterInsertion_3 : List UInt8 := [184, 1, 51, 43, 184, 1, 38, 184, 1, 38, 3, 184, 1, 51, 43, 184, 1, 38, 184, 1, 38, 76]
abbrev dktJ10_fixAfterInsertion_3 : List UInt8 := dkwJ10_fixAfterInsertion_3 ++ dktJ10_fixAfterInsertion_4
def dkwJ10_fixAfterInsertion_2 : List UInt8 := [184, 1, 38, 184, 1, 44, 77, 44, 184, 1, 47, 154, 0, 38, 43, 184, 1, 38, 4, 184, 1, 51, 44, 4]
abbrev dktJ10_fixAfterInsertion_2 : List UInt8 := dkwJ10_fixAfterInsertion_2 ++ dktJ10_fixAfterInsertion_3
def dkwJ10_fixAfterInsertion_1 : List UInt8 := [154, 0, 234, 43, 184, 1, 38, 43, 184, 1, 38, 184, 1, 38, 184, 1, 41, 166, 0, 110, 43, 184, 1, 38]
abbrev dktJ10_fixAfterInsertion_1 : List UInt8 := dkwJ10_fixAfterInsertion_1 ++ dktJ10_fixAfterInsertion_2
def dkwJ10_fixAfterInsertion_0 : List UInt8 := [43, 3, 181, 1, 34, 43, 198, 0, 252, 43, 42, 180, 0, 101, 165, 0, 244, 43, 180, 0, 124, 180, 1, 34]
abbrev dktJ10_fixAfterInsertion_0 : List UInt8 := dkwJ10_fixAfterInsertion_0 ++ dktJ10_fixAfterInsertion_1
theorem dksJ10_fixAfterInsertion_0 : cJ10_fixAfterInsertion.data.toList.drop 0 = dktJ10_fixAfterInsertion_0 := by decide +kernel
theorem dksJ10_fixAfterInsertion_1 : cJ10_fixAfterInsertion.data.toList.drop 24 = dktJ10_fixAfterInsertion_1 := dk_seg dksJ10_fixAfterInsertion_0 24 rfl rfl
theorem dksJ10_fixAfterInsertion_2 : cJ10_fixAfterInsertion.data.toList.drop 48 = dktJ10_fixAfterInsertion_2 := dk_seg dksJ10_fixAfterInsertion_1 24 rfl rfl
theorem dksJ10_fixAfterInsertion_3 : cJ10_fixAfterInsertion.data.toList.drop 72 = dktJ10_fixAfterInsertion_3 := dk_seg dksJ10_fixAfterInsertion_2 24 rfl rfl
theorem dksJ10_fixAfterInsertion_4 : cJ10_fixAfterInsertion.data.toList.drop 94 = dktJ10_fixAfterInsertion_4 := dk_seg dksJ10_fixAfterInsertion_3 22 rfl rfl
theorem dksJ10_fixAfterInsertion_5 : cJ10_fixAfterInsertion.data.toList.drop 118 = dktJ10_fixAfterInsertion_5 := dk_seg dksJ10_fixAfterInsertion_4 24 rfl rfl
theorem dksJ10_fixAfterInsertion_6 : cJ10_fixAfterInsertion.data.toList.drop 142 = dktJ10_fixAfterInsertion_6 := dk_seg dksJ10_fixAfterInsertion_5 24 rfl rfl
theorem dksJ10_fixAfterInsertion_7 : cJ10_fixAfterInsertion.data.toList.drop 166 = dktJ10_fixAfterInsertion_7 := dk_seg dksJ10_fixAfterInsertion_6 24 rfl rfl
theorem dksJ10_fixAfterInsertion_8 : cJ10_fixAfterInsertion.data.toList.drop 190 = dktJ10_fixAfterInsertion_8 := dk_seg dksJ10_fixAfterInsertion_7 24 rfl rfl
theorem dksJ10_fixAfterInsertion_9 : cJ10_fixAfterInsertion.data.toList.drop 212 = dktJ10_fixAfterInsertion_9 := dk_seg dksJ10_fixAfterInsertion_8 22 rfl rfl
theorem dksJ10_fixAfterInsertion_10 : cJ10_fixAfterInsertion.data.toList.drop 234 = dktJ10_fixAfterInsertion_10 := dk_seg dksJ10_fixAfterInsertion_9 22 rfl rfl
theorem dksJ10_fixAfterInsertion_11 : cJ10_fixAfterInsertion.data.toList.drop 258 = dktJ10_fixAfterInsertion_11 := dk_seg dksJ10_fixAfterInsertion_10 24 rfl rfl
theorem dJ10_fixAfterInsertion_0 : decode cJ10_fixAfterInsertion 0 = .ok (.aload_n 1, 1) := dk_43 (dk_at dksJ10_fixAfterInsertion_0 0 rfl rfl)
theorem dJ10_fixAfterInsertion_1 : decode cJ10_fixAfterInsertion 1 = .ok (.iconst 0, 1) := dk_3 (dk_at dksJ10_fixAfterInsertion_0 1 rfl rfl)
theorem dJ10_fixAfterInsertion_2 : decode cJ10_fixAfterInsertion 2 = .ok (.putfield 290, 3) := dk_181 1 34 (dk_at dksJ10_fixAfterInsertion_0 2 rfl rfl)
theorem dJ10_fixAfterInsertion_5 : decode cJ10_fixAfterInsertion 5 = .ok (.aload_n 1, 1) := dk_43 (dk_at dksJ10_fixAfterInsertion_0 5 rfl rfl)
theorem dJ10_fixAfterInsertion_6 : decode cJ10_fixAfterInsertion 6 = .ok (.ifnull 252, 3) := dk_198 0 252 (dk_at dksJ10_fixAfterInsertion_0 6 rfl rfl)
theorem dJ10_fixAfterInsertion_9 : decode cJ10_fixAfterInsertion 9 = .ok (.aload_n 1, 1) := dk_43 (dk_at dksJ10_fixAfterInsertion_0 9 rfl rfl)
theorem dJ10_fixAfterInsertion_10 : decode cJ10_fixAfterInsertion 10 = .ok (.aload_n 0, 1) := dk_42 (dk_at dksJ10_fixAfterInsertion_0 10 rfl rfl)
theorem dJ10_fixAfterInsertion_11 : decode cJ10_fixAfterInsertion 11 = .ok (.getfield 101, 3) := dk_180 0 101 (dk_at dksJ10_fixAfterInsertion_0 11 rfl rfl)
theorem dJ10_fixAfterInsertion_14 : decode cJ10_fixAfterInsertion 14 = .ok (.if_acmp .eq 244, 3) := dk_165 0 244 (dk_at dksJ10_fixAfterInsertion_0 14 rfl rfl)
theorem dJ10_fixAfterInsertion_17 : decode cJ10_fixAfterInsertion 17 = .ok (.aload_n 1, 1) := dk_43 (dk_at dksJ10_fixAfterInsertion_0 17 rfl rfl)
theorem dJ10_fixAfterInsertion_18 : decode cJ10_fixAfterInsertion 18 = .ok (.getfield 124, 3) := dk_180 0 124 (dk_at dksJ10_fixAfterInsertion_0 18 rfl rfl)
theorem dJ10_fixAfterInsertion_21 : decode cJ10_fixAfterInsertion 21 = .ok (.getfield 290, 3) := dk_180 1 34 (dk_at dksJ10_fixAfterInsertion_0 21 rfl rfl)
theorem dJ10_fixAfterInsertion_24 : decode cJ10_fixAfterInsertion 24 = .ok (.ifCond .ne 234, 3) := dk_154 0 234 (dk_at dksJ10_fixAfterInsertion_1 0 rfl rfl)
theorem dJ10_fixAfterInsertion_27 : decode cJ10_fixAfterInsertion 27 = .ok (.aload_n 1, 1) := dk_43 (dk_at dksJ10_fixAfterInsertion_1 3 rfl rfl)
theorem dJ10_fixAfterInsertion_28 : decode cJ10_fixAfterInsertion 28 = .ok (.invokestatic 294, 3) := dk_184 1 38 (dk_at dksJ10_fixAfterInsertion_1 4 rfl rfl)
theorem dJ10_fixAfterInsertion_31 : decode cJ10_fixAfterInsertion 31 = .ok (.aload_n 1, 1) := dk_43 (dk_at dksJ10_fixAfterInsertion_1 7 rfl rfl)
theorem dJ10_fixAfterInsertion_32 : decode cJ10_fixAfterInsertion 32 = .ok (.invokestatic 294, 3) := dk_184 1 38 (dk_at dksJ10_fixAfterInsertion_1 8 rfl rfl)
theorem dJ10_fixAfterInsertion_35 : decode cJ10_fixAfterInsertion 35 = .ok (.invokestatic 294, 3) := dk_184 1 38 (dk_at dksJ10_fixAfterInsertion_1 11 rfl rfl)
theorem dJ10_fixAfterInsertion_38 : decode cJ10_fixAfterInsertion 38 = .ok (.invokestatic 297, 3) := dk_184 1 41 (dk_at dksJ10_fixAfterInsertion_1 14 rfl rfl)
theorem dJ10_fixAfterInsertion_41 : decode cJ10_fixAfterInsertion 41 = .ok (.if_acmp .ne 110, 3) := dk_166 0 110 (dk_at dksJ10_fixAfterInsertion_1 17 rfl rfl)
theorem dJ10_fixAfterInsertion_44 : decode cJ10_fixAfterInsertion 44 = .ok (.aload_n 1, 1) := dk_43 (dk_at dksJ10_fixAfterInsertion_1 20 rfl rfl)
theorem dJ10_fixAfterInsertion_45 : decode cJ10_fixAfterInsertion 45 = .ok (.invokestatic 294, 3) := dk_184 1 38 (dk_at dksJ10_fixAfterInsertion_1 21 rfl rfl)
theorem dJ10_fixAfterInsertion_48 : decode cJ10_fixAfterInsertion 48 = .ok (.invokestatic 294, 3) := dk_184 1 38 (dk_at dksJ10_fixAfterInsertion_2 0 rfl rfl)
theorem dJ10_fixAfterInsertion_51 : decode cJ10_fixAfterInsertion 51 = .ok (.invokestatic 300, 3) := dk_184 1 44 (dk_at dksJ10_fixAfterInsertion_2 3 rfl rfl)
theorem dJ10_fixAfterInsertion_54 : decode cJ10_fixAfterInsertion 54 = .ok (.astore_n 2, 1) := dk_77 (dk_at dksJ10_fixAfterInsertion_2 6 rfl rfl)
theorem dJ10_fixAfterInsertion_55 : decode cJ10_fixAfterInsertion 55 = .ok (.aload_n 2, 1) := dk_44 (dk_at dksJ10_fixAfterInsertion_2 7 rfl rfl)
theorem dJ10_fixAfterInsertion_56 : decode cJ10_fixAfterInsertion 56 = .ok (.invokestatic 303, 3) := dk_184 1 47 (dk_at dksJ10_fixAfterInsertion_2 8 rfl rfl)
theorem dJ10_fixAfterInsertion_59 : decode cJ10_fixAfterInsertion 59 = .ok (.ifCond .ne 38, 3) := dk_154 0 38 (dk_at dksJ10_fixAfterInsertion_2 11 rfl rfl)
theorem dJ10_fixAfterInsertion_62 : decode cJ10_fixAfterInsertion 62 = .ok (.aload_n 1, 1) := dk_43 (dk_at dksJ10_fixAfterInsertion_2 14 rfl rfl)
theorem dJ10_fixAfterInsertion_63 : decode cJ10_fixAfterInsertion 63 = .ok (.invokestatic 294, 3) := dk_184 1 38 (dk_at dksJ10_fixAfterInsertion_2 15 rfl rfl)
theorem dJ10_fixAfterInsertion_66 : decode cJ10_fixAfterInsertion 66 = .ok (.iconst 1, 1) := dk_4 (dk_at dksJ10_fixAfterInsertion_2 18 rfl rfl)
theorem dJ10_fixAfterInsertion_67 : decode cJ10_fixAfterInsertion 67 = .ok (.invokestatic 307, 3) := dk_184 1 51 (dk_at dksJ10_fixAfterInsertion_2 19 rfl rfl)
theorem dJ10_fixAfterInsertion_70 : decode cJ10_fixAfterInsertion 70 = .ok (.aload_n 2, 1) := dk_44 (dk_at dksJ10_fixAfterInsertion_2 22 rfl rfl)
theorem dJ10_fixAfterInsertion_71 : decode cJ10_fixAfterInsertion 71 = .ok (.iconst 1, 1) := dk_4 (dk_at dksJ10_fixAfterInsertion_2 23 rfl rfl)
theorem dJ10_fixAfterInsertion_72 : decode cJ10_fixAfterInsertion 72 = .ok (.invokestatic 307, 3) := dk_184 1 51 (dk_at dksJ10_fixAfterInsertion_3 0 rfl rfl)
theorem dJ10_fixAfterInsertion_75 : decode cJ10_fixAfterInsertion 75 = .ok (.aload_n 1, 1) := dk_43 (dk_at dksJ10_fixAfterInsertion_3 3 rfl rfl)
theorem dJ10_fixAfterInsertion_76 : decode cJ10_fixAfterInsertion 76 = .ok (.invokestatic 294, 3) := dk_184 1 38 (dk_at dksJ10_fixAfterInsertion_3 4 rfl rfl)
theorem dJ10_fixAfterInsertion_79 : decode cJ10_fixAfterInsertion 79 = .ok (.invokestatic 294, 3) := dk_184 1 38 (dk_at dksJ10_fixAfterInsertion_3 7 rfl rfl)
theorem dJ10_fixAfterInsertion_82 : decode cJ10_fixAfterInsertion 82 = .ok (.iconst 0, 1) := dk_3 (dk_at dksJ10_fixAfterInsertion_3 10 rfl rfl)
theorem dJ10_fixAfterInsertion_83 : decode cJ10_fixAfterInsertion 83 = .ok (.invokestatic 307, 3) := dk_184 1 51 (dk_at dksJ10_fixAfterInsertion_3 11 rfl rfl)
theorem dJ10_fixAfterInsertion_86 : decode cJ10_fixAfterInsertion 86 = .ok (.aload_n 1, 1) := dk_43 (dk_at dksJ10_fixAfterInsertion_3 14 rfl rfl)
theorem dJ10_fixAfterInsertion_87 : decode cJ10_fixAfterInsertion 87 = .ok (.invokestatic 294, 3) := dk_184 1 38 (dk_at dksJ10_fixAfterInsertion_3 15 rfl rfl)
theorem dJ10_fixAfterInsertion_90 : decode cJ10_fixAfterInsertion 90 = .ok (.invokestatic 294, 3) := dk_184 1 38 (dk_at dksJ10_fixAfterInsertion_3 18 rfl rfl)
theorem dJ10_fixAfterInsertion_93 : decode cJ10_fixAfterInsertion 93 = .ok (.astore_n 1, 1) := dk_76 (dk_at dksJ10_fixAfterInsertion_3 21 rfl rfl)
theorem dJ10_fixAfterInsertion_94 : decode cJ10_fixAfterInsertion 94 = .ok (.goto 54, 3) := dk_167 0 54 (dk_at dksJ10_fixAfterInsertion_4 0 rfl rfl)
theorem dJ10_fixAfterInsertion_97 : decode cJ10_fixAfterInsertion 97 = .ok (.aload_n 1, 1) := dk_43 (dk_at dksJ10_fixAfterInsertion_4 3 rfl rfl)
theorem dJ10_fixAfterInsertion_98 : decode cJ10_fixAfterInsertion 98 = .ok (.aload_n 1, 1) := dk_43 (dk_at dksJ10_fixAfterInsertion_4 4 rfl rfl)
theorem dJ10_fixAfterInsertion_99 : decode cJ10_fixAfterInsertion 99 = .ok (.invokestatic 294, 3) := dk_184 1 38 (dk_at dksJ10_fixAfterInsertion_4 5 rfl rfl)
theorem dJ10_fixAfterInsertion_102 : decode cJ10_fixAfterInsertion 102 = .ok (.invokestatic 300, 3) := dk_184 1 44 (dk_at dksJ10_fixAfterInsertion_4 8 rfl rfl)
theorem dJ10_fixAfterInsertion_105 : decode cJ10_fixAfterInsertion 105 = .ok (.if_acmp .ne 13, 3) := dk_166 0 13 (dk_at dksJ10_fixAfterInsertion_4 11 rfl rfl)
theorem dJ10_fixAfterInsertion_108 : decode cJ10_fixAfterInsertion 108 = .ok (.aload_n 1, 1) := dk_43 (dk_at dksJ10_fixAfterInsertion_4 14 rfl rfl)
theorem dJ10_fixAfterInsertion_109 : decode cJ10_fixAfterInsertion 109 = .ok (.invokestatic 294, 3) := dk_184 1 38 (dk_at dksJ10_fixAfterInsertion_4 15 rfl rfl)
theorem dJ10_fixAfterInsertion_112 : decode cJ10_fixAfterInsertion 112 = .ok (.astore_n 1, 1) := dk_76 (dk_at dksJ10_fixAfterInsertion_4 18 rfl rfl)
theorem dJ10_fixAfterInsertion_113 : decode cJ10_fixAfterInsertion 113 = .ok (.aload_n 0, 1) := dk_42 (dk_at dksJ10_fixAfterInsertion_4 19 rfl rfl)
theorem dJ10_fixAfterInsertion_114 : decode cJ10_fixAfterInsertion 114 = .ok (.aload_n 1, 1) := dk_43 (dk_at dksJ10_fixAfterInsertion_4 20 rfl rfl)
theorem dJ10_fixAfterInsertion_115 : decode cJ10_fixAfterInsertion 115 = .ok (.invokevirtual 311, 3) := dk_182 1 55 (dk_at dksJ10_fixAfterInsertion_4 21 rfl rfl)
theorem dJ10_fixAfterInsertion_118 : decode cJ10_fixAfterInsertion 118 = .ok (.aload_n 1, 1) := dk_43 (dk_at dksJ10_fixAfterInsertion_5 0 rfl rfl)
theorem dJ10_fixAfterInsertion_119 : decode cJ10_fixAfterInsertion 119 = .ok (.invokestatic 294, 3) := dk_184 1 38 (dk_at dksJ10_fixAfterInsertion_5 1 rfl rfl)
theorem dJ10_fixAfterInsertion_122 : decode cJ10_fixAfterInsertion 122 = .ok (.iconst 1, 1) := dk_4 (dk_at dksJ10_fixAfterInsertion_5 4 rfl rfl)
theorem dJ10_fixAfterInsertion_123 : decode cJ10_fixAfterInsertion 123 = .ok (.invokestatic 307, 3) := dk_184 1 51 (dk_at dksJ10_fixAfterInsertion_5 5 rfl rfl)
theorem dJ10_fixAfterInsertion_126 : decode cJ10_fixAfterInsertion 126 = .ok (.aload_n 1, 1) := dk_43 (dk_at dksJ10_fixAfterInsertion_5 8 rfl rfl)
theorem dJ10_fixAfterInsertion_127 : decode cJ10_fixAfterInsertion 127 = .ok (.invokestatic 294, 3) := dk_184 1 38 (dk_at dksJ10_fixAfterInsertion_5 9 rfl rfl)
theorem dJ10_fixAfterInsertion_130 : decode cJ10_fixAfterInsertion 130 = .ok (.invokestatic 294, 3) := dk_184 1 38 (dk_at dksJ10_fixAfterInsertion_5 12 rfl rfl)
theorem dJ10_fixAfterInsertion_133 : decode cJ10_fixAfterInsertion 133 = .ok (.iconst 0, 1) := dk_3 (dk_at dksJ10_fixAfterInsertion_5 15 rfl rfl)
theorem dJ10_fixAfterInsertion_134 : decode cJ10_fixAfterInsertion 134 = .ok (.invokestatic 307, 3) := dk_184 1 51 (dk_at dksJ10_fixAfterInsertion_5 16 rfl rfl)
theorem dJ10_fixAfterInsertion_137 : decode cJ10_fixAfterInsertion 137 = .ok (.aload_n 0, 1) := dk_42 (dk_at dksJ10_fixAfterInsertion_5 19 rfl rfl)
theorem dJ10_fixAfterInsertion_138 : decode cJ10_fixAfterInsertion 138 = .ok (.aload_n 1, 1) := dk_43 (dk_at dksJ10_fixAfterInsertion_5 20 rfl rfl)
theorem dJ10_fixAfterInsertion_139 : decode cJ10_fixAfterInsertion 139 = .ok (.invokestatic 294, 3) := dk_184 1 38 (dk_at dksJ10_fixAfterInsertion_5 21 rfl rfl)
theorem dJ10_fixAfterInsertion_142 : decode cJ10_fixAfterInsertion 142 = .ok (.invokestatic 294, 3) := dk_184 1 38 (dk_at dksJ10_fixAfterInsertion_6 0 rfl rfl)
theorem dJ10_fixAfterInsertion_145 : decode cJ10_fixAfterInsertion 145 = .ok (.invokevirtual 314, 3) := dk_182 1 58 (dk_at dksJ10_fixAfterInsertion_6 3 rfl rfl)
theorem dJ10_fixAfterInsertion_148 : decode cJ10_fixAfterInsertion 148 = .ok (.goto (-143), 3) := dk_167 255 113 (dk_at dksJ10_fixAfterInsertion_6 6 rfl rfl)
theorem dJ10_fixAfterInsertion_151 : decode cJ10_fixAfterInsertion 151 = .ok (.aload_n 1, 1) := dk_43 (dk_at dksJ10_fixAfterInsertion_6 9 rfl rfl)
theorem dJ10_fixAfterInsertion_152 : decode cJ10_fixAfterInsertion 152 = .ok (.invokestatic 294, 3) := dk_184 1 38 (dk_at dksJ10_fixAfterInsertion_6 10 rfl rfl)
theorem dJ10_fixAfterInsertion_155 : decode cJ10_fixAfterInsertion 155 = .ok (.invokestatic 294, 3) := dk_184 1 38 (dk_at dksJ10_fixAfterInsertion_6 13 rfl rfl)
theorem dJ10_fixAfterInsertion_158 : decode cJ10_fixAfterInsertion 158 = .ok (.invokestatic 297, 3) := dk_184 1 41 (dk_at dksJ10_fixAfterInsertion_6 16 rfl rfl)
theorem dJ10_fixAfterInsertion_161 : decode cJ10_fixAfterInsertion 161 = .ok (.astore_n 2, 1) := dk_77 (dk_at dksJ10_fixAfterInsertion_6 19 rfl rfl)
theorem dJ10_fixAfterInsertion_162 : decode cJ10_fixAfterInsertion 162 = .ok (.aload_n 2, 1) := dk_44 (dk_at dksJ10_fixAfterInsertion_6 20 rfl rfl)
theorem dJ10_fixAfterInsertion_163 : decode cJ10_fixAfterInsertion 163 = .ok (.invokestatic 303, 3) := dk_184 1 47 (dk_at dksJ10_fixAfterInsertion_6 21 rfl rfl)
theorem dJ10_fixAfterInsertion_166 : decode cJ10_fixAfterInsertion 166 = .ok (.ifCond .ne 38, 3) := dk_154 0 38 (dk_at dksJ10_fixAfterInsertion_7 0 rfl rfl)
theorem dJ10_fixAfterInsertion_169 : decode cJ10_fixAfterInsertion 169 = .ok (.aload_n 1, 1) := dk_43 (dk_at dksJ10_fixAfterInsertion_7 3 rfl rfl)
theorem dJ10_fixAfterInsertion_170 : decode cJ10_fixAfterInsertion 170 = .ok (.invokestatic 294, 3) := dk_184 1 38 (dk_at dksJ10_fixAfterInsertion_7 4 rfl rfl)
theorem dJ10_fixAfterInsertion_173 : decode cJ10_fixAfterInsertion 173 = .ok (.iconst 1, 1) := dk_4 (dk_at dksJ10_fixAfterInsertion_7 7 rfl rfl)
theorem dJ10_fixAfterInsertion_174 : decode cJ10_fixAfterInsertion 174 = .ok (.invokestatic 307, 3) := dk_184 1 51 (dk_at dksJ10_fixAfterInsertion_7 8 rfl rfl)
theorem dJ10_fixAfterInsertion_177 : decode cJ10_fixAfterInsertion 177 = .ok (.aload_n 2, 1) := dk_44 (dk_at dksJ10_fixAfterInsertion_7 11 rfl rfl)
theorem dJ10_fixAfterInsertion_178 : decode cJ10_fixAfterInsertion 178 = .ok (.iconst 1, 1) := dk_4 (dk_at dksJ10_fixAfterInsertion_7 12 rfl rfl)
theorem dJ10_fixAfterInsertion_179 : decode cJ10_fixAfterInsertion 179 = .ok (.invokestatic 307, 3) := dk_184 1 51 (dk_at dksJ10_fixAfterInsertion_7 13 rfl rfl)
theorem dJ10_fixAfterInsertion_182 : decode cJ10_fixAfterInsertion 182 = .ok (.aload_n 1, 1) := dk_43 (dk_at dksJ10_fixAfterInsertion_7 16 rfl rfl)
theorem dJ10_fixAfterInsertion_183 : decode cJ10_fixAfterInsertion 183 = .ok (.invokestatic 294, 3) := dk_184 1 38 (dk_at dksJ10_fixAfterInsertion_7 17 rfl rfl)
theorem dJ10_fixAfterInsertion_186 : decode cJ10_fixAfterInsertion 186 = .ok (.invokestatic 294, 3) := dk_184 1 38 (dk_at dksJ10_fixAfterInsertion_7 20 rfl rfl)
theorem dJ10_fixAfterInsertion_189 : decode cJ10_fixAfterInsertion 189 = .ok (.iconst 0, 1) := dk_3 (dk_at dksJ10_fixAfterInsertion_7 23 rfl rfl)
theorem dJ10_fixAfterInsertion_190 : decode cJ10_fixAfterInsertion 190 = .ok (.invokestatic 307, 3) := dk_184 1 51 (dk_at dksJ10_fixAfterInsertion_8 0 rfl rfl)
theorem dJ10_fixAfterInsertion_193 : decode cJ10_fixAfterInsertion 193 = .ok (.aload_n 1, 1) := dk_43 (dk_at dksJ10_fixAfterInsertion_8 3 rfl rfl)
theorem dJ10_fixAfterInsertion_194 : decode cJ10_fixAfterInsertion 194 = .ok (.invokestatic 294, 3) := dk_184 1 38 (dk_at dksJ10_fixAfterInsertion_8 4 rfl rfl)
theorem dJ10_fixAfterInsertion_197 : decode cJ10_fixAfterInsertion 197 = .ok (.invokestatic 294, 3) := dk_184 1 38 (dk_at dksJ10_fixAfterInsertion_8 7 rfl rfl)
theorem dJ10_fixAfterInsertion_200 : decode cJ10_fixAfterInsertion 200 = .ok (.astore_n 1, 1) := dk_76 (dk_at dksJ10_fixAfterInsertion_8 10 rfl rfl)
theorem dJ10_fixAfterInsertion_201 : decode cJ10_fixAfterInsertion 201 = .ok (.goto 54, 3) := dk_167 0 54 (dk_at dksJ10_fixAfterInsertion_8 11 rfl rfl)
theorem dJ10_fixAfterInsertion_204 : decode cJ10_fixAfterInsertion 204 = .ok (.aload_n 1, 1) := dk_43 (dk_at dksJ10_fixAfterInsertion_8 14 rfl rfl)
theorem dJ10_fixAfterInsertion_205 : decode cJ10_fixAfterInsertion 205 = .ok (.aload_n 1, 1) := dk_43 (dk_at dksJ10_fixAfterInsertion_8 15 rfl rfl)
theorem dJ10_fixAfterInsertion_206 : decode cJ10_fixAfterInsertion 206 = .ok (.invokestatic 294, 3) := dk_184 1 38 (dk_at dksJ10_fixAfterInsertion_8 16 rfl rfl)
theorem dJ10_fixAfterInsertion_209 : decode cJ10_fixAfterInsertion 209 = .ok (.invokestatic 297, 3) := dk_184 1 41 (dk_at dksJ10_fixAfterInsertion_8 19 rfl rfl)
theorem dJ10_fixAfterInsertion_212 : decode cJ10_fixAfterInsertion 212 = .ok (.if_acmp .ne 13, 3) := dk_166 0 13 (dk_at dksJ10_fixAfterInsertion_9 0 rfl rfl)
theorem dJ10_fixAfterInsertion_215 : decode cJ10_fixAfterInsertion 215 = .ok (.aload_n 1, 1) := dk_43 (dk_at dksJ10_fixAfterInsertion_9 3 rfl rfl)
theorem dJ10_fixAfterInsertion_216 : decode cJ10_fixAfterInsertion 216 = .ok (.invokestatic 294, 3) := dk_184 1 38 (dk_at dksJ10_fixAfterInsertion_9 4 rfl rfl)
theorem dJ10_fixAfterInsertion_219 : decode cJ10_fixAfterInsertion 219 = .ok (.astore_n 1, 1) := dk_76 (dk_at dksJ10_fixAfterInsertion_9 7 rfl rfl)
theorem dJ10_fixAfterInsertion_220 : decode cJ10_fixAfterInsertion 220 = .ok (.aload_n 0, 1) := dk_42 (dk_at dksJ10_fixAfterInsertion_9 8 rfl rfl)
theorem dJ10_fixAfterInsertion_221 : decode cJ10_fixAfterInsertion 221 = .ok (.aload_n 1, 1) := dk_43 (dk_at dksJ10_fixAfterInsertion_9 9 rfl rfl)
theorem dJ10_fixAfterInsertion_222 : decode cJ10_fixAfterInsertion 222 = .ok (.invokevirtual 314, 3) := dk_182 1 58 (dk_at dksJ10_fixAfterInsertion_9 10 rfl rfl)
theorem dJ10_fixAfterInsertion_225 : decode cJ10_fixAfterInsertion 225 = .ok (.aload_n 1, 1) := dk_43 (dk_at dksJ10_fixAfterInsertion_9 13 rfl rfl)
theorem dJ10_fixAfterInsertion_226 : decode cJ10_fixAfterInsertion 226 = .ok (.invokestatic 294, 3) := dk_184 1 38 (dk_at dksJ10_fixAfterInsertion_9 14 rfl rfl)
theorem dJ10_fixAfterInsertion_229 : decode cJ10_fixAfterInsertion 229 = .ok (.iconst 1, 1) := dk_4 (dk_at dksJ10_fixAfterInsertion_9 17 rfl rfl)
theorem dJ10_fixAfterInsertion_230 : decode cJ10_fixAfterInsertion 230 = .ok (.invokestatic 307, 3) := dk_184 1 51 (dk_at dksJ10_fixAfterInsertion_9 18 rfl rfl)
theorem dJ10_fixAfterInsertion_233 : decode cJ10_fixAfterInsertion 233 = .ok (.aload_n 1, 1) := dk_43 (dk_at dksJ10_fixAfterInsertion_9 21 rfl rfl)
theorem dJ10_fixAfterInsertion_234 : decode cJ10_fixAfterInsertion 234 = .ok (.invokestatic 294, 3) := dk_184 1 38 (dk_at dksJ10_fixAfterInsertion_10 0 rfl rfl)
theorem dJ10_fixAfterInsertion_237 : decode cJ10_fixAfterInsertion 237 = .ok (.invokestatic 294, 3) := dk_184 1 38 (dk_at dksJ10_fixAfterInsertion_10 3 rfl rfl)
theorem dJ10_fixAfterInsertion_240 : decode cJ10_fixAfterInsertion 240 = .ok (.iconst 0, 1) := dk_3 (dk_at dksJ10_fixAfterInsertion_10 6 rfl rfl)
theorem dJ10_fixAfterInsertion_241 : decode cJ10_fixAfterInsertion 241 = .ok (.invokestatic 307, 3) := dk_184 1 51 (dk_at dksJ10_fixAfterInsertion_10 7 rfl rfl)
theorem dJ10_fixAfterInsertion_244 : decode cJ10_fixAfterInsertion 244 = .ok (.aload_n 0, 1) := dk_42 (dk_at dksJ10_fixAfterInsertion_10 10 rfl rfl)
theorem dJ10_fixAfterInsertion_245 : decode cJ10_fixAfterInsertion 245 = .ok (.aload_n 1, 1) := dk_43 (dk_at dksJ10_fixAfterInsertion_10 11 rfl rfl)
theorem dJ10_fixAfterInsertion_246 : decode cJ10_fixAfterInsertion 246 = .ok (.invokestatic 294, 3) := dk_184 1 38 (dk_at dksJ10_fixAfterInsertion_10 12 rfl rfl)
theorem dJ10_fixAfterInsertion_249 : decode cJ10_fixAfterInsertion 249 = .ok (.invokestatic 294, 3) := dk_184 1 38 (dk_at dksJ10_fixAfterInsertion_10 15 rfl rfl)
theorem dJ10_fixAfterInsertion_252 : decode cJ10_fixAfterInsertion 252 = .ok (.invokevirtual 311, 3) := dk_182 1 55 (dk_at dksJ10_fixAfterInsertion_10 18 rfl rfl)
theorem dJ10_fixAfterInsertion_255 : decode cJ10_fixAfterInsertion 255 = .ok (.goto (-250), 3) := dk_167 255 6 (dk_at dksJ10_fixAfterInsertion_10 21 rfl rfl)
theorem dJ10_fixAfterInsertion_258 : decode cJ10_fixAfterInsertion 258 = .ok (.aload_n 0, 1) := dk_42 (dk_at dksJ10_fixAfterInsertion_11 0 rfl rfl)
theorem dJ10_fixAfterInsertion_259 : decode cJ10_fixAfterInsertion 259 = .ok (.getfield 101, 3) := dk_180 0 101 (dk_at dksJ10_fixAfterInsertion_11 1 rfl rfl)
theorem dJ10_fixAfterInsertion_262 : decode cJ10_fixAfterInsertion 262 = .ok (.iconst 1, 1) := dk_4 (dk_at dksJ10_fixAfterInsertion_11 4 rfl rfl)
theorem dJ10_fixAfterInsertion_263 : decode cJ10_fixAfterInsertion 263 = .ok (.putfield 290, 3) := dk_181 1 34 (dk_at dksJ10_fixAfterInsertion_11 5 rfl rfl)
theorem dJ10_fixAfterInsertion_266 : decode cJ10_fixAfterInsertion 266 = .ok (.return_, 1) := dk_177 (dk_at dksJ10_fixAfterInsertion_11 8 rfl rfl)
abbrev cJ10_parentOf : ByteArray := prog_87_method_77_code
def yJ10_parentOf : MethodName := ⟨RJ10, "parentOf", "(Ljava/util/TreeMap$Entry;)Ljava/util/TreeMap$Entry;"⟩
def dkwJ10_parentOf_0 : List UInt8 := [42, 199, 0, 7, 1, 167, 0, 7, 42, 180, 0, 124, 176]
abbrev dktJ10_parentOf_0 : List UInt8 := dkwJ10_parentOf_0 ++ []
theorem dksJ10_parentOf_0 : cJ10_parentOf.data.toList.drop 0 = dktJ10_parentOf_0 := by decide +kernel
theorem dJ10_parentOf_0 : decode cJ10_parentOf 0 = .ok (.aload_n 0, 1) := dk_42 (dk_at dksJ10_parentOf_0 0 rfl rfl)
theorem dJ10_parentOf_1 : decode cJ10_parentOf 1 = .ok (.ifnonnull 7, 3) := dk_199 0 7 (dk_at dksJ10_parentOf_0 1 rfl rfl)
theorem dJ10_parentOf_4 : decode cJ10_parentOf 4 = .ok (.aconst_null, 1) := dk_1 (dk_at dksJ10_parentOf_0 4 rfl rfl)
theorem dJ10_parentOf_5 : decode cJ10_parentOf 5 = .ok (.goto 7, 3) := dk_167 0 7 (dk_at dksJ10_parentOf_0 5 rfl rfl)
theorem dJ10_parentOf_8 : decode cJ10_parentOf 8 = .ok (.aload_n 0, 1) := dk_42 (dk_at dksJ10_parentOf_0 8 rfl rfl)
theorem dJ10_parentOf_9 : decode cJ10_parentOf 9 = .ok (.getfield 124, 3) := dk_180 0 124 (dk_at dksJ10_parentOf_0 9 rfl rfl)
theorem dJ10_parentOf_12 : decode cJ10_parentOf 12 = .ok (.areturn, 1) := dk_176 (dk_at dksJ10_parentOf_0 12 rfl rfl)
abbrev cJ10_leftOf : ByteArray := prog_87_method_79_code
def yJ10_leftOf : MethodName := ⟨RJ10, "leftOf", "(Ljava/util/TreeMap$Entry;)Ljava/util/TreeMap$Entry;"⟩
def dkwJ10_leftOf_0 : List UInt8 := [42, 199, 0, 7, 1, 167, 0, 7, 42, 180, 0, 111, 176]
abbrev dktJ10_leftOf_0 : List UInt8 := dkwJ10_leftOf_0 ++ []
theorem dksJ10_leftOf_0 : cJ10_leftOf.data.toList.drop 0 = dktJ10_leftOf_0 := by decide +kernel
theorem dJ10_leftOf_0 : decode cJ10_leftOf 0 = .ok (.aload_n 0, 1) := dk_42 (dk_at dksJ10_leftOf_0 0 rfl rfl)
theorem dJ10_leftOf_1 : decode cJ10_leftOf 1 = .ok (.ifnonnull 7, 3) := dk_199 0 7 (dk_at dksJ10_leftOf_0 1 rfl rfl)
theorem dJ10_leftOf_4 : decode cJ10_leftOf 4 = .ok (.aconst_null, 1) := dk_1 (dk_at dksJ10_leftOf_0 4 rfl rfl)
theorem dJ10_leftOf_5 : decode cJ10_leftOf 5 = .ok (.goto 7, 3) := dk_167 0 7 (dk_at dksJ10_leftOf_0 5 rfl rfl)
theorem dJ10_leftOf_8 : decode cJ10_leftOf 8 = .ok (.aload_n 0, 1) := dk_42 (dk_at dksJ10_leftOf_0 8 rfl rfl)
theorem dJ10_leftOf_9 : decode cJ10_leftOf 9 = .ok (.getfield 111, 3) := dk_180 0 111 (dk_at dksJ10_leftOf_0 9 rfl rfl)
theorem dJ10_leftOf_12 : decode cJ10_leftOf 12 = .ok (.areturn, 1) := dk_176 (dk_at dksJ10_leftOf_0 12 rfl rfl)
abbrev cJ10_rightOf : ByteArray := prog_87_method_80_code
def yJ10_rightOf : MethodName := ⟨RJ10, "rightOf", "(Ljava/util/TreeMap$Entry;)Ljava/util/TreeMap$Entry;"⟩
def dkwJ10_rightOf_0 : List UInt8 := [42, 199, 0, 7, 1, 167, 0, 7, 42, 180, 0, 114, 176]
abbrev dktJ10_rightOf_0 : List UInt8 := dkwJ10_rightOf_0 ++ []
theorem dksJ10_rightOf_0 : cJ10_rightOf.data.toList.drop 0 = dktJ10_rightOf_0 := by decide +kernel
theorem dJ10_rightOf_0 : decode cJ10_rightOf 0 = .ok (.aload_n 0, 1) := dk_42 (dk_at dksJ10_rightOf_0 0 rfl rfl)
theorem dJ10_rightOf_1 : decode cJ10_rightOf 1 = .ok (.ifnonnull 7, 3) := dk_199 0 7 (dk_at dksJ10_rightOf_0 1 rfl rfl)
theorem dJ10_rightOf_4 : decode cJ10_rightOf 4 = .ok (.aconst_null, 1) := dk_1 (dk_at dksJ10_rightOf_0 4 rfl rfl)
theorem dJ10_rightOf_5 : decode cJ10_rightOf 5 = .ok (.goto 7, 3) := dk_167 0 7 (dk_at dksJ10_rightOf_0 5 rfl rfl)
theorem dJ10_rightOf_8 : decode cJ10_rightOf 8 = .ok (.aload_n 0, 1) := dk_42 (dk_at dksJ10_rightOf_0 8 rfl rfl)
theorem dJ10_rightOf_9 : decode cJ10_rightOf 9 = .ok (.getfield 114, 3) := dk_180 0 114 (dk_at dksJ10_rightOf_0 9 rfl rfl)
theorem dJ10_rightOf_12 : decode cJ10_rightOf 12 = .ok (.areturn, 1) := dk_176 (dk_at dksJ10_rightOf_0 12 rfl rfl)
abbrev cJ10_colorOf : ByteArray := prog_87_method_76_code
def yJ10_colorOf : MethodName := ⟨RJ10, "colorOf", "(Ljava/util/TreeMap$Entry;)Z"⟩
def dkwJ10_colorOf_0 : List UInt8 := [42, 199, 0, 7, 4, 167, 0, 7, 42, 180, 1, 34, 172]
abbrev dktJ10_colorOf_0 : List UInt8 := dkwJ10_colorOf_0 ++ []
theorem dksJ10_colorOf_0 : cJ10_colorOf.data.toList.drop 0 = dktJ10_colorOf_0 := by decide +kernel
theorem dJ10_colorOf_0 : decode cJ10_colorOf 0 = .ok (.aload_n 0, 1) := dk_42 (dk_at dksJ10_colorOf_0 0 rfl rfl)
theorem dJ10_colorOf_1 : decode cJ10_colorOf 1 = .ok (.ifnonnull 7, 3) := dk_199 0 7 (dk_at dksJ10_colorOf_0 1 rfl rfl)
theorem dJ10_colorOf_4 : decode cJ10_colorOf 4 = .ok (.iconst 1, 1) := dk_4 (dk_at dksJ10_colorOf_0 4 rfl rfl)
theorem dJ10_colorOf_5 : decode cJ10_colorOf 5 = .ok (.goto 7, 3) := dk_167 0 7 (dk_at dksJ10_colorOf_0 5 rfl rfl)
theorem dJ10_colorOf_8 : decode cJ10_colorOf 8 = .ok (.aload_n 0, 1) := dk_42 (dk_at dksJ10_colorOf_0 8 rfl rfl)
theorem dJ10_colorOf_9 : decode cJ10_colorOf 9 = .ok (.getfield 290, 3) := dk_180 1 34 (dk_at dksJ10_colorOf_0 9 rfl rfl)
theorem dJ10_colorOf_12 : decode cJ10_colorOf 12 = .ok (.ireturn, 1) := dk_172 (dk_at dksJ10_colorOf_0 12 rfl rfl)
abbrev cJ10_setColor : ByteArray := prog_87_method_78_code
def yJ10_setColor : MethodName := ⟨RJ10, "setColor", "(Ljava/util/TreeMap$Entry;Z)V"⟩
def dkwJ10_setColor_0 : List UInt8 := [42, 198, 0, 8, 42, 27, 181, 1, 34, 177]
abbrev dktJ10_setColor_0 : List UInt8 := dkwJ10_setColor_0 ++ []
theorem dksJ10_setColor_0 : cJ10_setColor.data.toList.drop 0 = dktJ10_setColor_0 := by decide +kernel
theorem dJ10_setColor_0 : decode cJ10_setColor 0 = .ok (.aload_n 0, 1) := dk_42 (dk_at dksJ10_setColor_0 0 rfl rfl)
theorem dJ10_setColor_1 : decode cJ10_setColor 1 = .ok (.ifnull 8, 3) := dk_198 0 8 (dk_at dksJ10_setColor_0 1 rfl rfl)
theorem dJ10_setColor_4 : decode cJ10_setColor 4 = .ok (.aload_n 0, 1) := dk_42 (dk_at dksJ10_setColor_0 4 rfl rfl)
theorem dJ10_setColor_5 : decode cJ10_setColor 5 = .ok (.iload_n 1, 1) := dk_27 (dk_at dksJ10_setColor_0 5 rfl rfl)
theorem dJ10_setColor_6 : decode cJ10_setColor 6 = .ok (.putfield 290, 3) := dk_181 1 34 (dk_at dksJ10_setColor_0 6 rfl rfl)
theorem dJ10_setColor_9 : decode cJ10_setColor 9 = .ok (.return_, 1) := dk_177 (dk_at dksJ10_setColor_0 9 rfl rfl)
abbrev cJ10_rotateLeft : ByteArray := prog_87_method_81_code
def yJ10_rotateLeft : MethodName := ⟨RJ10, "rotateLeft", "(Ljava/util/TreeMap$Entry;)V"⟩
def dkwJ10_rotateLeft_4 : List UInt8 := [177]
abbrev dktJ10_rotateLeft_4 : List UInt8 := dkwJ10_rotateLeft_4 ++ []
def dkwJ10_rotateLeft_3 : List UInt8 := [181, 0, 111, 167, 0, 11, 43, 180, 0, 124, 44, 181, 0, 114, 44, 43, 181, 0, 111, 43, 44, 181, 0, 124]
abbrev dktJ10_rotateLeft_3 : List UInt8 := dkwJ10_rotateLeft_3 ++ dktJ10_rotateLeft_4
def dkwJ10_rotateLeft_2 : List UInt8 := [44, 181, 0, 101, 167, 0, 33, 43, 180, 0, 124, 180, 0, 111, 43, 166, 0, 14, 43, 180, 0, 124, 44]
abbrev dktJ10_rotateLeft_2 : List UInt8 := dkwJ10_rotateLeft_2 ++ dktJ10_rotateLeft_3
def dkwJ10_rotateLeft_1 : List UInt8 := [44, 180, 0, 111, 43, 181, 0, 124, 44, 43, 180, 0, 124, 181, 0, 124, 43, 180, 0, 124, 199, 0, 11, 42]
abbrev dktJ10_rotateLeft_1 : List UInt8 := dkwJ10_rotateLeft_1 ++ dktJ10_rotateLeft_2
def dkwJ10_rotateLeft_0 : List UInt8 := [43, 198, 0, 94, 43, 180, 0, 114, 77, 43, 44, 180, 0, 111, 181, 0, 114, 44, 180, 0, 111, 198, 0, 11]
abbrev dktJ10_rotateLeft_0 : List UInt8 := dkwJ10_rotateLeft_0 ++ dktJ10_rotateLeft_1
theorem dksJ10_rotateLeft_0 : cJ10_rotateLeft.data.toList.drop 0 = dktJ10_rotateLeft_0 := by decide +kernel
theorem dksJ10_rotateLeft_1 : cJ10_rotateLeft.data.toList.drop 24 = dktJ10_rotateLeft_1 := dk_seg dksJ10_rotateLeft_0 24 rfl rfl
theorem dksJ10_rotateLeft_2 : cJ10_rotateLeft.data.toList.drop 48 = dktJ10_rotateLeft_2 := dk_seg dksJ10_rotateLeft_1 24 rfl rfl
theorem dksJ10_rotateLeft_3 : cJ10_rotateLeft.data.toList.drop 71 = dktJ10_rotateLeft_3 := dk_seg dksJ10_rotateLeft_2 23 rfl rfl
theorem dksJ10_rotateLeft_4 : cJ10_rotateLeft.data.toList.drop 95 = dktJ10_rotateLeft_4 := dk_seg dksJ10_rotateLeft_3 24 rfl rfl
theorem dJ10_rotateLeft_0 : decode cJ10_rotateLeft 0 = .ok (.aload_n 1, 1) := dk_43 (dk_at dksJ10_rotateLeft_0 0 rfl rfl)
theorem dJ10_rotateLeft_1 : decode cJ10_rotateLeft 1 = .ok (.ifnull 94, 3) := dk_198 0 94 (dk_at dksJ10_rotateLeft_0 1 rfl rfl)
theorem dJ10_rotateLeft_4 : decode cJ10_rotateLeft 4 = .ok (.aload_n 1, 1) := dk_43 (dk_at dksJ10_rotateLeft_0 4 rfl rfl)
theorem dJ10_rotateLeft_5 : decode cJ10_rotateLeft 5 = .ok (.getfield 114, 3) := dk_180 0 114 (dk_at dksJ10_rotateLeft_0 5 rfl rfl)
theorem dJ10_rotateLeft_8 : decode cJ10_rotateLeft 8 = .ok (.astore_n 2, 1) := dk_77 (dk_at dksJ10_rotateLeft_0 8 rfl rfl)
theorem dJ10_rotateLeft_9 : decode cJ10_rotateLeft 9 = .ok (.aload_n 1, 1) := dk_43 (dk_at dksJ10_rotateLeft_0 9 rfl rfl)
theorem dJ10_rotateLeft_10 : decode cJ10_rotateLeft 10 = .ok (.aload_n 2, 1) := dk_44 (dk_at dksJ10_rotateLeft_0 10 rfl rfl)
theorem dJ10_rotateLeft_11 : decode cJ10_rotateLeft 11 = .ok (.getfield 111, 3) := dk_180 0 111 (dk_at dksJ10_rotateLeft_0 11 rfl rfl)
theorem dJ10_rotateLeft_14 : decode cJ10_rotateLeft 14 = .ok (.putfield 114, 3) := dk_181 0 114 (dk_at dksJ10_rotateLeft_0 14 rfl rfl)
theorem dJ10_rotateLeft_17 : decode cJ10_rotateLeft 17 = .ok (.aload_n 2, 1) := dk_44 (dk_at dksJ10_rotateLeft_0 17 rfl rfl)
theorem dJ10_rotateLeft_18 : decode cJ10_rotateLeft 18 = .ok (.getfield 111, 3) := dk_180 0 111 (dk_at dksJ10_rotateLeft_0 18 rfl rfl)
theorem dJ10_rotateLeft_21 : decode cJ10_rotateLeft 21 = .ok (.ifnull 11, 3) := dk_198 0 11 (dk_at dksJ10_rotateLeft_0 21 rfl rfl)
theorem dJ10_rotateLeft_24 : decode cJ10_rotateLeft 24 = .ok (.aload_n 2, 1) := dk_44 (dk_at dksJ10_rotateLeft_1 0 rfl rfl)
theorem dJ10_rotateLeft_25 : decode cJ10_rotateLeft 25 = .ok (.getfield 111, 3) := dk_180 0 111 (dk_at dksJ10_rotateLeft_1 1 rfl rfl)
theorem dJ10_rotateLeft_28 : decode cJ10_rotateLeft 28 = .ok (.aload_n 1, 1) := dk_43 (dk_at dksJ10_rotateLeft_1 4 rfl rfl)
theorem dJ10_rotateLeft_29 : decode cJ10_rotateLeft 29 = .ok (.putfield 124, 3) := dk_181 0 124 (dk_at dksJ10_rotateLeft_1 5 rfl rfl)
theorem dJ10_rotateLeft_32 : decode cJ10_rotateLeft 32 = .ok (.aload_n 2, 1) := dk_44 (dk_at dksJ10_rotateLeft_1 8 rfl rfl)
theorem dJ10_rotateLeft_33 : decode cJ10_rotateLeft 33 = .ok (.aload_n 1, 1) := dk_43 (dk_at dksJ10_rotateLeft_1 9 rfl rfl)
theorem dJ10_rotateLeft_34 : decode cJ10_rotateLeft 34 = .ok (.getfield 124, 3) := dk_180 0 124 (dk_at dksJ10_rotateLeft_1 10 rfl rfl)
theorem dJ10_rotateLeft_37 : decode cJ10_rotateLeft 37 = .ok (.putfield 124, 3) := dk_181 0 124 (dk_at dksJ10_rotateLeft_1 13 rfl rfl)
theorem dJ10_rotateLeft_40 : decode cJ10_rotateLeft 40 = .ok (.aload_n 1, 1) := dk_43 (dk_at dksJ10_rotateLeft_1 16 rfl rfl)
theorem dJ10_rotateLeft_41 : decode cJ10_rotateLeft 41 = .ok (.getfield 124, 3) := dk_180 0 124 (dk_at dksJ10_rotateLeft_1 17 rfl rfl)
theorem dJ10_rotateLeft_44 : decode cJ10_rotateLeft 44 = .ok (.ifnonnull 11, 3) := dk_199 0 11 (dk_at dksJ10_rotateLeft_1 20 rfl rfl)
theorem dJ10_rotateLeft_47 : decode cJ10_rotateLeft 47 = .ok (.aload_n 0, 1) := dk_42 (dk_at dksJ10_rotateLeft_1 23 rfl rfl)
theorem dJ10_rotateLeft_48 : decode cJ10_rotateLeft 48 = .ok (.aload_n 2, 1) := dk_44 (dk_at dksJ10_rotateLeft_2 0 rfl rfl)
theorem dJ10_rotateLeft_49 : decode cJ10_rotateLeft 49 = .ok (.putfield 101, 3) := dk_181 0 101 (dk_at dksJ10_rotateLeft_2 1 rfl rfl)
theorem dJ10_rotateLeft_52 : decode cJ10_rotateLeft 52 = .ok (.goto 33, 3) := dk_167 0 33 (dk_at dksJ10_rotateLeft_2 4 rfl rfl)
theorem dJ10_rotateLeft_55 : decode cJ10_rotateLeft 55 = .ok (.aload_n 1, 1) := dk_43 (dk_at dksJ10_rotateLeft_2 7 rfl rfl)
theorem dJ10_rotateLeft_56 : decode cJ10_rotateLeft 56 = .ok (.getfield 124, 3) := dk_180 0 124 (dk_at dksJ10_rotateLeft_2 8 rfl rfl)
theorem dJ10_rotateLeft_59 : decode cJ10_rotateLeft 59 = .ok (.getfield 111, 3) := dk_180 0 111 (dk_at dksJ10_rotateLeft_2 11 rfl rfl)
theorem dJ10_rotateLeft_62 : decode cJ10_rotateLeft 62 = .ok (.aload_n 1, 1) := dk_43 (dk_at dksJ10_rotateLeft_2 14 rfl rfl)
theorem dJ10_rotateLeft_63 : decode cJ10_rotateLeft 63 = .ok (.if_acmp .ne 14, 3) := dk_166 0 14 (dk_at dksJ10_rotateLeft_2 15 rfl rfl)
theorem dJ10_rotateLeft_66 : decode cJ10_rotateLeft 66 = .ok (.aload_n 1, 1) := dk_43 (dk_at dksJ10_rotateLeft_2 18 rfl rfl)
theorem dJ10_rotateLeft_67 : decode cJ10_rotateLeft 67 = .ok (.getfield 124, 3) := dk_180 0 124 (dk_at dksJ10_rotateLeft_2 19 rfl rfl)
theorem dJ10_rotateLeft_70 : decode cJ10_rotateLeft 70 = .ok (.aload_n 2, 1) := dk_44 (dk_at dksJ10_rotateLeft_2 22 rfl rfl)
theorem dJ10_rotateLeft_71 : decode cJ10_rotateLeft 71 = .ok (.putfield 111, 3) := dk_181 0 111 (dk_at dksJ10_rotateLeft_3 0 rfl rfl)
theorem dJ10_rotateLeft_74 : decode cJ10_rotateLeft 74 = .ok (.goto 11, 3) := dk_167 0 11 (dk_at dksJ10_rotateLeft_3 3 rfl rfl)
theorem dJ10_rotateLeft_77 : decode cJ10_rotateLeft 77 = .ok (.aload_n 1, 1) := dk_43 (dk_at dksJ10_rotateLeft_3 6 rfl rfl)
theorem dJ10_rotateLeft_78 : decode cJ10_rotateLeft 78 = .ok (.getfield 124, 3) := dk_180 0 124 (dk_at dksJ10_rotateLeft_3 7 rfl rfl)
theorem dJ10_rotateLeft_81 : decode cJ10_rotateLeft 81 = .ok (.aload_n 2, 1) := dk_44 (dk_at dksJ10_rotateLeft_3 10 rfl rfl)
theorem dJ10_rotateLeft_82 : decode cJ10_rotateLeft 82 = .ok (.putfield 114, 3) := dk_181 0 114 (dk_at dksJ10_rotateLeft_3 11 rfl rfl)
theorem dJ10_rotateLeft_85 : decode cJ10_rotateLeft 85 = .ok (.aload_n 2, 1) := dk_44 (dk_at dksJ10_rotateLeft_3 14 rfl rfl)
theorem dJ10_rotateLeft_86 : decode cJ10_rotateLeft 86 = .ok (.aload_n 1, 1) := dk_43 (dk_at dksJ10_rotateLeft_3 15 rfl rfl)
theorem dJ10_rotateLeft_87 : decode cJ10_rotateLeft 87 = .ok (.putfield 111, 3) := dk_181 0 111 (dk_at dksJ10_rotateLeft_3 16 rfl rfl)
theorem dJ10_rotateLeft_90 : decode cJ10_rotateLeft 90 = .ok (.aload_n 1, 1) := dk_43 (dk_at dksJ10_rotateLeft_3 19 rfl rfl)
theorem dJ10_rotateLeft_91 : decode cJ10_rotateLeft 91 = .ok (.aload_n 2, 1) := dk_44 (dk_at dksJ10_rotateLeft_3 20 rfl rfl)
theorem dJ10_rotateLeft_92 : decode cJ10_rotateLeft 92 = .ok (.putfield 124, 3) := dk_181 0 124 (dk_at dksJ10_rotateLeft_3 21 rfl rfl)
theorem dJ10_rotateLeft_95 : decode cJ10_rotateLeft 95 = .ok (.return_, 1) := dk_177 (dk_at dksJ10_rotateLeft_4 0 rfl rfl)
abbrev cJ10_rotateRight : ByteArray := prog_87_method_82_code
def yJ10_rotateRight : MethodName := ⟨RJ10, "rotateRight", "(Ljava/util/TreeMap$Entry;)V"⟩
def dkwJ10_rotateRight_4 : List UInt8 := [177]
abbrev dktJ10_rotateRight_4 : List UInt8 := dkwJ10_rotateRight_4 ++ []
def dkwJ10_rotateRight_3 : List UInt8 := [181, 0, 114, 167, 0, 11, 43, 180, 0, 124, 44, 181, 0, 111, 44, 43, 181, 0, 114, 43, 44, 181, 0, 124]
abbrev dktJ10_rotateRight_3 : List UInt8 := dkwJ10_rotateRight_3 ++ dktJ10_rotateRight_4
def dkwJ10_rotateRight_2 : List UInt8 := [44, 181, 0, 101, 167, 0, 33, 43, 180, 0, 124, 180, 0, 114, 43, 166, 0, 14, 43, 180, 0, 124, 44]
abbrev dktJ10_rotateRight_2 : List UInt8 := dkwJ10_rotateRight_2 ++ dktJ10_rotateRight_3
def dkwJ10_rotateRight_1 : List UInt8 := [44, 180, 0, 114, 43, 181, 0, 124, 44, 43, 180, 0, 124, 181, 0, 124, 43, 180, 0, 124, 199, 0, 11, 42]
abbrev dktJ10_rotateRight_1 : List UInt8 := dkwJ10_rotateRight_1 ++ dktJ10_rotateRight_2
def dkwJ10_rotateRight_0 : List UInt8 := [43, 198, 0, 94, 43, 180, 0, 111, 77, 43, 44, 180, 0, 114, 181, 0, 111, 44, 180, 0, 114, 198, 0, 11]
abbrev dktJ10_rotateRight_0 : List UInt8 := dkwJ10_rotateRight_0 ++ dktJ10_rotateRight_1
theorem dksJ10_rotateRight_0 : cJ10_rotateRight.data.toList.drop 0 = dktJ10_rotateRight_0 := by decide +kernel
theorem dksJ10_rotateRight_1 : cJ10_rotateRight.data.toList.drop 24 = dktJ10_rotateRight_1 := dk_seg dksJ10_rotateRight_0 24 rfl rfl
theorem dksJ10_rotateRight_2 : cJ10_rotateRight.data.toList.drop 48 = dktJ10_rotateRight_2 := dk_seg dksJ10_rotateRight_1 24 rfl rfl
theorem dksJ10_rotateRight_3 : cJ10_rotateRight.data.toList.drop 71 = dktJ10_rotateRight_3 := dk_seg dksJ10_rotateRight_2 23 rfl rfl
theorem dksJ10_rotateRight_4 : cJ10_rotateRight.data.toList.drop 95 = dktJ10_rotateRight_4 := dk_seg dksJ10_rotateRight_3 24 rfl rfl
theorem dJ10_rotateRight_0 : decode cJ10_rotateRight 0 = .ok (.aload_n 1, 1) := dk_43 (dk_at dksJ10_rotateRight_0 0 rfl rfl)
theorem dJ10_rotateRight_1 : decode cJ10_rotateRight 1 = .ok (.ifnull 94, 3) := dk_198 0 94 (dk_at dksJ10_rotateRight_0 1 rfl rfl)
theorem dJ10_rotateRight_4 : decode cJ10_rotateRight 4 = .ok (.aload_n 1, 1) := dk_43 (dk_at dksJ10_rotateRight_0 4 rfl rfl)
theorem dJ10_rotateRight_5 : decode cJ10_rotateRight 5 = .ok (.getfield 111, 3) := dk_180 0 111 (dk_at dksJ10_rotateRight_0 5 rfl rfl)
theorem dJ10_rotateRight_8 : decode cJ10_rotateRight 8 = .ok (.astore_n 2, 1) := dk_77 (dk_at dksJ10_rotateRight_0 8 rfl rfl)
theorem dJ10_rotateRight_9 : decode cJ10_rotateRight 9 = .ok (.aload_n 1, 1) := dk_43 (dk_at dksJ10_rotateRight_0 9 rfl rfl)
theorem dJ10_rotateRight_10 : decode cJ10_rotateRight 10 = .ok (.aload_n 2, 1) := dk_44 (dk_at dksJ10_rotateRight_0 10 rfl rfl)
theorem dJ10_rotateRight_11 : decode cJ10_rotateRight 11 = .ok (.getfield 114, 3) := dk_180 0 114 (dk_at dksJ10_rotateRight_0 11 rfl rfl)
theorem dJ10_rotateRight_14 : decode cJ10_rotateRight 14 = .ok (.putfield 111, 3) := dk_181 0 111 (dk_at dksJ10_rotateRight_0 14 rfl rfl)
theorem dJ10_rotateRight_17 : decode cJ10_rotateRight 17 = .ok (.aload_n 2, 1) := dk_44 (dk_at dksJ10_rotateRight_0 17 rfl rfl)
theorem dJ10_rotateRight_18 : decode cJ10_rotateRight 18 = .ok (.getfield 114, 3) := dk_180 0 114 (dk_at dksJ10_rotateRight_0 18 rfl rfl)
theorem dJ10_rotateRight_21 : decode cJ10_rotateRight 21 = .ok (.ifnull 11, 3) := dk_198 0 11 (dk_at dksJ10_rotateRight_0 21 rfl rfl)
theorem dJ10_rotateRight_24 : decode cJ10_rotateRight 24 = .ok (.aload_n 2, 1) := dk_44 (dk_at dksJ10_rotateRight_1 0 rfl rfl)
theorem dJ10_rotateRight_25 : decode cJ10_rotateRight 25 = .ok (.getfield 114, 3) := dk_180 0 114 (dk_at dksJ10_rotateRight_1 1 rfl rfl)
theorem dJ10_rotateRight_28 : decode cJ10_rotateRight 28 = .ok (.aload_n 1, 1) := dk_43 (dk_at dksJ10_rotateRight_1 4 rfl rfl)
theorem dJ10_rotateRight_29 : decode cJ10_rotateRight 29 = .ok (.putfield 124, 3) := dk_181 0 124 (dk_at dksJ10_rotateRight_1 5 rfl rfl)
theorem dJ10_rotateRight_32 : decode cJ10_rotateRight 32 = .ok (.aload_n 2, 1) := dk_44 (dk_at dksJ10_rotateRight_1 8 rfl rfl)
theorem dJ10_rotateRight_33 : decode cJ10_rotateRight 33 = .ok (.aload_n 1, 1) := dk_43 (dk_at dksJ10_rotateRight_1 9 rfl rfl)
theorem dJ10_rotateRight_34 : decode cJ10_rotateRight 34 = .ok (.getfield 124, 3) := dk_180 0 124 (dk_at dksJ10_rotateRight_1 10 rfl rfl)
theorem dJ10_rotateRight_37 : decode cJ10_rotateRight 37 = .ok (.putfield 124, 3) := dk_181 0 124 (dk_at dksJ10_rotateRight_1 13 rfl rfl)
theorem dJ10_rotateRight_40 : decode cJ10_rotateRight 40 = .ok (.aload_n 1, 1) := dk_43 (dk_at dksJ10_rotateRight_1 16 rfl rfl)
theorem dJ10_rotateRight_41 : decode cJ10_rotateRight 41 = .ok (.getfield 124, 3) := dk_180 0 124 (dk_at dksJ10_rotateRight_1 17 rfl rfl)
theorem dJ10_rotateRight_44 : decode cJ10_rotateRight 44 = .ok (.ifnonnull 11, 3) := dk_199 0 11 (dk_at dksJ10_rotateRight_1 20 rfl rfl)
theorem dJ10_rotateRight_47 : decode cJ10_rotateRight 47 = .ok (.aload_n 0, 1) := dk_42 (dk_at dksJ10_rotateRight_1 23 rfl rfl)
theorem dJ10_rotateRight_48 : decode cJ10_rotateRight 48 = .ok (.aload_n 2, 1) := dk_44 (dk_at dksJ10_rotateRight_2 0 rfl rfl)
theorem dJ10_rotateRight_49 : decode cJ10_rotateRight 49 = .ok (.putfield 101, 3) := dk_181 0 101 (dk_at dksJ10_rotateRight_2 1 rfl rfl)
theorem dJ10_rotateRight_52 : decode cJ10_rotateRight 52 = .ok (.goto 33, 3) := dk_167 0 33 (dk_at dksJ10_rotateRight_2 4 rfl rfl)
theorem dJ10_rotateRight_55 : decode cJ10_rotateRight 55 = .ok (.aload_n 1, 1) := dk_43 (dk_at dksJ10_rotateRight_2 7 rfl rfl)
theorem dJ10_rotateRight_56 : decode cJ10_rotateRight 56 = .ok (.getfield 124, 3) := dk_180 0 124 (dk_at dksJ10_rotateRight_2 8 rfl rfl)
theorem dJ10_rotateRight_59 : decode cJ10_rotateRight 59 = .ok (.getfield 114, 3) := dk_180 0 114 (dk_at dksJ10_rotateRight_2 11 rfl rfl)
theorem dJ10_rotateRight_62 : decode cJ10_rotateRight 62 = .ok (.aload_n 1, 1) := dk_43 (dk_at dksJ10_rotateRight_2 14 rfl rfl)
theorem dJ10_rotateRight_63 : decode cJ10_rotateRight 63 = .ok (.if_acmp .ne 14, 3) := dk_166 0 14 (dk_at dksJ10_rotateRight_2 15 rfl rfl)
theorem dJ10_rotateRight_66 : decode cJ10_rotateRight 66 = .ok (.aload_n 1, 1) := dk_43 (dk_at dksJ10_rotateRight_2 18 rfl rfl)
theorem dJ10_rotateRight_67 : decode cJ10_rotateRight 67 = .ok (.getfield 124, 3) := dk_180 0 124 (dk_at dksJ10_rotateRight_2 19 rfl rfl)
theorem dJ10_rotateRight_70 : decode cJ10_rotateRight 70 = .ok (.aload_n 2, 1) := dk_44 (dk_at dksJ10_rotateRight_2 22 rfl rfl)
theorem dJ10_rotateRight_71 : decode cJ10_rotateRight 71 = .ok (.putfield 114, 3) := dk_181 0 114 (dk_at dksJ10_rotateRight_3 0 rfl rfl)
theorem dJ10_rotateRight_74 : decode cJ10_rotateRight 74 = .ok (.goto 11, 3) := dk_167 0 11 (dk_at dksJ10_rotateRight_3 3 rfl rfl)
theorem dJ10_rotateRight_77 : decode cJ10_rotateRight 77 = .ok (.aload_n 1, 1) := dk_43 (dk_at dksJ10_rotateRight_3 6 rfl rfl)
theorem dJ10_rotateRight_78 : decode cJ10_rotateRight 78 = .ok (.getfield 124, 3) := dk_180 0 124 (dk_at dksJ10_rotateRight_3 7 rfl rfl)
theorem dJ10_rotateRight_81 : decode cJ10_rotateRight 81 = .ok (.aload_n 2, 1) := dk_44 (dk_at dksJ10_rotateRight_3 10 rfl rfl)
theorem dJ10_rotateRight_82 : decode cJ10_rotateRight 82 = .ok (.putfield 111, 3) := dk_181 0 111 (dk_at dksJ10_rotateRight_3 11 rfl rfl)
theorem dJ10_rotateRight_85 : decode cJ10_rotateRight 85 = .ok (.aload_n 2, 1) := dk_44 (dk_at dksJ10_rotateRight_3 14 rfl rfl)
theorem dJ10_rotateRight_86 : decode cJ10_rotateRight 86 = .ok (.aload_n 1, 1) := dk_43 (dk_at dksJ10_rotateRight_3 15 rfl rfl)
theorem dJ10_rotateRight_87 : decode cJ10_rotateRight 87 = .ok (.putfield 114, 3) := dk_181 0 114 (dk_at dksJ10_rotateRight_3 16 rfl rfl)
theorem dJ10_rotateRight_90 : decode cJ10_rotateRight 90 = .ok (.aload_n 1, 1) := dk_43 (dk_at dksJ10_rotateRight_3 19 rfl rfl)
theorem dJ10_rotateRight_91 : decode cJ10_rotateRight 91 = .ok (.aload_n 2, 1) := dk_44 (dk_at dksJ10_rotateRight_3 20 rfl rfl)
theorem dJ10_rotateRight_92 : decode cJ10_rotateRight 92 = .ok (.putfield 124, 3) := dk_181 0 124 (dk_at dksJ10_rotateRight_3 21 rfl rfl)
theorem dJ10_rotateRight_95 : decode cJ10_rotateRight 95 = .ok (.return_, 1) := dk_177 (dk_at dksJ10_rotateRight_4 0 rfl rfl)
abbrev cJ10_clear : ByteArray := prog_87_method_35_code
def yJ10_clear : MethodName := ⟨RJ10, "clear", "()V"⟩
def dkwJ10_clear_0 : List UInt8 := [42, 89, 180, 0, 13, 4, 96, 181, 0, 13, 42, 3, 181, 0, 7, 42, 1, 181, 0, 101, 177]
abbrev dktJ10_clear_0 : List UInt8 := dkwJ10_clear_0 ++ []
theorem dksJ10_clear_0 : cJ10_clear.data.toList.drop 0 = dktJ10_clear_0 := by decide +kernel
theorem dJ10_clear_0 : decode cJ10_clear 0 = .ok (.aload_n 0, 1) := dk_42 (dk_at dksJ10_clear_0 0 rfl rfl)
theorem dJ10_clear_1 : decode cJ10_clear 1 = .ok (.dup, 1) := dk_89 (dk_at dksJ10_clear_0 1 rfl rfl)
theorem dJ10_clear_2 : decode cJ10_clear 2 = .ok (.getfield 13, 3) := dk_180 0 13 (dk_at dksJ10_clear_0 2 rfl rfl)
theorem dJ10_clear_5 : decode cJ10_clear 5 = .ok (.iconst 1, 1) := dk_4 (dk_at dksJ10_clear_0 5 rfl rfl)
theorem dJ10_clear_6 : decode cJ10_clear 6 = .ok (.iadd, 1) := dk_96 (dk_at dksJ10_clear_0 6 rfl rfl)
theorem dJ10_clear_7 : decode cJ10_clear 7 = .ok (.putfield 13, 3) := dk_181 0 13 (dk_at dksJ10_clear_0 7 rfl rfl)
theorem dJ10_clear_10 : decode cJ10_clear 10 = .ok (.aload_n 0, 1) := dk_42 (dk_at dksJ10_clear_0 10 rfl rfl)
theorem dJ10_clear_11 : decode cJ10_clear 11 = .ok (.iconst 0, 1) := dk_3 (dk_at dksJ10_clear_0 11 rfl rfl)
theorem dJ10_clear_12 : decode cJ10_clear 12 = .ok (.putfield 7, 3) := dk_181 0 7 (dk_at dksJ10_clear_0 12 rfl rfl)
theorem dJ10_clear_15 : decode cJ10_clear 15 = .ok (.aload_n 0, 1) := dk_42 (dk_at dksJ10_clear_0 15 rfl rfl)
theorem dJ10_clear_16 : decode cJ10_clear 16 = .ok (.aconst_null, 1) := dk_1 (dk_at dksJ10_clear_0 16 rfl rfl)
theorem dJ10_clear_17 : decode cJ10_clear 17 = .ok (.putfield 101, 3) := dk_181 0 101 (dk_at dksJ10_clear_0 17 rfl rfl)
theorem dJ10_clear_20 : decode cJ10_clear 20 = .ok (.return_, 1) := dk_177 (dk_at dksJ10_clear_0 20 rfl rfl)
abbrev cJ10_keySet : ByteArray := prog_87_method_49_code
def yJ10_keySet : MethodName := ⟨RJ10, "keySet", "()Ljava/util/Set;"⟩
theorem dJ10_keySet_0 : decode cJ10_keySet 0 = .ok (.aload_n 0, 1) := by decide +kernel
theorem dJ10_keySet_1 : decode cJ10_keySet 1 = .ok (.invokevirtual 219, 3) := by decide +kernel
theorem dJ10_keySet_4 : decode cJ10_keySet 4 = .ok (.areturn, 1) := by decide +kernel
abbrev cJ10_navigableKeySet : ByteArray := prog_87_method_50_code
def yJ10_navigableKeySet : MethodName := ⟨RJ10, "navigableKeySet", "()Ljava/util/NavigableSet;"⟩
def dkwJ10_navigableKeySet_1 : List UInt8 := [181, 0, 191, 176]
abbrev dktJ10_navigableKeySet_1 : List UInt8 := dkwJ10_navigableKeySet_1 ++ []
def dkwJ10_navigableKeySet_0 : List UInt8 := [42, 180, 0, 191, 76, 43, 198, 0, 7, 43, 167, 0, 16, 42, 187, 0, 222, 89, 42, 183, 0, 224, 90]
abbrev dktJ10_navigableKeySet_0 : List UInt8 := dkwJ10_navigableKeySet_0 ++ dktJ10_navigableKeySet_1
theorem dksJ10_navigableKeySet_0 : cJ10_navigableKeySet.data.toList.drop 0 = dktJ10_navigableKeySet_0 := by decide +kernel
theorem dksJ10_navigableKeySet_1 : cJ10_navigableKeySet.data.toList.drop 23 = dktJ10_navigableKeySet_1 := dk_seg dksJ10_navigableKeySet_0 23 rfl rfl
theorem dJ10_navigableKeySet_0 : decode cJ10_navigableKeySet 0 = .ok (.aload_n 0, 1) := dk_42 (dk_at dksJ10_navigableKeySet_0 0 rfl rfl)
theorem dJ10_navigableKeySet_1 : decode cJ10_navigableKeySet 1 = .ok (.getfield 191, 3) := dk_180 0 191 (dk_at dksJ10_navigableKeySet_0 1 rfl rfl)
theorem dJ10_navigableKeySet_4 : decode cJ10_navigableKeySet 4 = .ok (.astore_n 1, 1) := dk_76 (dk_at dksJ10_navigableKeySet_0 4 rfl rfl)
theorem dJ10_navigableKeySet_5 : decode cJ10_navigableKeySet 5 = .ok (.aload_n 1, 1) := dk_43 (dk_at dksJ10_navigableKeySet_0 5 rfl rfl)
theorem dJ10_navigableKeySet_6 : decode cJ10_navigableKeySet 6 = .ok (.ifnull 7, 3) := dk_198 0 7 (dk_at dksJ10_navigableKeySet_0 6 rfl rfl)
theorem dJ10_navigableKeySet_9 : decode cJ10_navigableKeySet 9 = .ok (.aload_n 1, 1) := dk_43 (dk_at dksJ10_navigableKeySet_0 9 rfl rfl)
theorem dJ10_navigableKeySet_10 : decode cJ10_navigableKeySet 10 = .ok (.goto 16, 3) := dk_167 0 16 (dk_at dksJ10_navigableKeySet_0 10 rfl rfl)
theorem dJ10_navigableKeySet_13 : decode cJ10_navigableKeySet 13 = .ok (.aload_n 0, 1) := dk_42 (dk_at dksJ10_navigableKeySet_0 13 rfl rfl)
theorem dJ10_navigableKeySet_14 : decode cJ10_navigableKeySet 14 = .ok (.new 222, 3) := dk_187 0 222 (dk_at dksJ10_navigableKeySet_0 14 rfl rfl)
theorem dJ10_navigableKeySet_17 : decode cJ10_navigableKeySet 17 = .ok (.dup, 1) := dk_89 (dk_at dksJ10_navigableKeySet_0 17 rfl rfl)
theorem dJ10_navigableKeySet_18 : decode cJ10_navigableKeySet 18 = .ok (.aload_n 0, 1) := dk_42 (dk_at dksJ10_navigableKeySet_0 18 rfl rfl)
theorem dJ10_navigableKeySet_19 : decode cJ10_navigableKeySet 19 = .ok (.invokespecial 224, 3) := dk_183 0 224 (dk_at dksJ10_navigableKeySet_0 19 rfl rfl)
theorem dJ10_navigableKeySet_22 : decode cJ10_navigableKeySet 22 = .ok (.dup_x1, 1) := dk_90 (dk_at dksJ10_navigableKeySet_0 22 rfl rfl)
theorem dJ10_navigableKeySet_23 : decode cJ10_navigableKeySet 23 = .ok (.putfield 191, 3) := dk_181 0 191 (dk_at dksJ10_navigableKeySet_1 0 rfl rfl)
theorem dJ10_navigableKeySet_26 : decode cJ10_navigableKeySet 26 = .ok (.areturn, 1) := dk_176 (dk_at dksJ10_navigableKeySet_1 3 rfl rfl)
abbrev cJ10_deleteEntry : ByteArray := prog_87_method_84_code
def yJ10_deleteEntry : MethodName := ⟨RJ10, "deleteEntry", "(Ljava/util/TreeMap$Entry;)V"⟩
def dkwJ10_deleteEntry_10 : List UInt8 := [180, 0, 124, 1, 181, 0, 114, 43, 1, 181, 0, 124, 177]
abbrev dktJ10_deleteEntry_10 : List UInt8 := dkwJ10_deleteEntry_10 ++ []
def dkwJ10_deleteEntry_9 : List UInt8 := [180, 0, 124, 1, 181, 0, 111, 167, 0, 22, 43, 43, 180, 0, 124, 180, 0, 114, 166, 0, 11, 43]
abbrev dktJ10_deleteEntry_9 : List UInt8 := dkwJ10_deleteEntry_9 ++ dktJ10_deleteEntry_10
def dkwJ10_deleteEntry_8 : List UInt8 := [182, 1, 61, 43, 180, 0, 124, 198, 0, 49, 43, 43, 180, 0, 124, 180, 0, 111, 166, 0, 14, 43]
abbrev dktJ10_deleteEntry_8 : List UInt8 := dkwJ10_deleteEntry_8 ++ dktJ10_deleteEntry_9
def dkwJ10_deleteEntry_7 : List UInt8 := [180, 0, 124, 199, 0, 11, 42, 1, 181, 0, 101, 167, 0, 69, 43, 180, 1, 34, 4, 160, 0, 8, 42, 43]
abbrev dktJ10_deleteEntry_7 : List UInt8 := dkwJ10_deleteEntry_7 ++ dktJ10_deleteEntry_8
def dkwJ10_deleteEntry_6 : List UInt8 := [181, 0, 114, 181, 0, 111, 43, 180, 1, 34, 4, 160, 0, 92, 42, 44, 182, 1, 61, 167, 0, 84, 43]
abbrev dktJ10_deleteEntry_6 : List UInt8 := dkwJ10_deleteEntry_6 ++ dktJ10_deleteEntry_7
def dkwJ10_deleteEntry_5 : List UInt8 := [181, 0, 111, 167, 0, 11, 43, 180, 0, 124, 44, 181, 0, 114, 43, 43, 43, 1, 90, 181, 0, 124, 90]
abbrev dktJ10_deleteEntry_5 : List UInt8 := dkwJ10_deleteEntry_5 ++ dktJ10_deleteEntry_6
def dkwJ10_deleteEntry_4 : List UInt8 := [44, 181, 0, 101, 167, 0, 33, 43, 43, 180, 0, 124, 180, 0, 111, 166, 0, 14, 43, 180, 0, 124, 44]
abbrev dktJ10_deleteEntry_4 : List UInt8 := dkwJ10_deleteEntry_4 ++ dktJ10_deleteEntry_5
def dkwJ10_deleteEntry_3 : List UInt8 := [180, 0, 114, 77, 44, 198, 0, 87, 44, 43, 180, 0, 124, 181, 0, 124, 43, 180, 0, 124, 199, 0, 11, 42]
abbrev dktJ10_deleteEntry_3 : List UInt8 := dkwJ10_deleteEntry_3 ++ dktJ10_deleteEntry_4
def dkwJ10_deleteEntry_2 : List UInt8 := [44, 180, 0, 58, 181, 0, 58, 44, 76, 43, 180, 0, 111, 198, 0, 10, 43, 180, 0, 111, 167, 0, 7, 43]
abbrev dktJ10_deleteEntry_2 : List UInt8 := dkwJ10_deleteEntry_2 ++ dktJ10_deleteEntry_3
def dkwJ10_deleteEntry_1 : List UInt8 := [198, 0, 33, 43, 180, 0, 114, 198, 0, 26, 43, 184, 0, 68, 77, 43, 44, 180, 0, 105, 181, 0, 105, 43]
abbrev dktJ10_deleteEntry_1 : List UInt8 := dkwJ10_deleteEntry_1 ++ dktJ10_deleteEntry_2
def dkwJ10_deleteEntry_0 : List UInt8 := [42, 89, 180, 0, 13, 4, 96, 181, 0, 13, 42, 89, 180, 0, 7, 4, 100, 181, 0, 7, 43, 180, 0, 111]
abbrev dktJ10_deleteEntry_0 : List UInt8 := dkwJ10_deleteEntry_0 ++ dktJ10_deleteEntry_1
theorem dksJ10_deleteEntry_0 : cJ10_deleteEntry.data.toList.drop 0 = dktJ10_deleteEntry_0 := by decide +kernel
theorem dksJ10_deleteEntry_1 : cJ10_deleteEntry.data.toList.drop 24 = dktJ10_deleteEntry_1 := dk_seg dksJ10_deleteEntry_0 24 rfl rfl
theorem dksJ10_deleteEntry_2 : cJ10_deleteEntry.data.toList.drop 48 = dktJ10_deleteEntry_2 := dk_seg dksJ10_deleteEntry_1 24 rfl rfl
theorem dksJ10_deleteEntry_3 : cJ10_deleteEntry.data.toList.drop 72 = dktJ10_deleteEntry_3 := dk_seg dksJ10_deleteEntry_2 24 rfl rfl
theorem dksJ10_deleteEntry_4 : cJ10_deleteEntry.data.toList.drop 96 = dktJ10_deleteEntry_4 := dk_seg dksJ10_deleteEntry_3 24 rfl rfl
theorem dksJ10_deleteEntry_5 : cJ10_deleteEntry.data.toList.drop 119 = dktJ10_deleteEntry_5 := dk_seg dksJ10_deleteEntry_4 23 rfl rfl
theorem dksJ10_deleteEntry_6 : cJ10_deleteEntry.data.toList.drop 142 = dktJ10_deleteEntry_6 := dk_seg dksJ10_deleteEntry_5 23 rfl rfl
theorem dksJ10_deleteEntry_7 : cJ10_deleteEntry.data.toList.drop 165 = dktJ10_deleteEntry_7 := dk_seg dksJ10_deleteEntry_6 23 rfl rfl
theorem dksJ10_deleteEntry_8 : cJ10_deleteEntry.data.toList.drop 189 = dktJ10_deleteEntry_8 := dk_seg dksJ10_deleteEntry_7 24 rfl rfl
theorem dksJ10_deleteEntry_9 : cJ10_deleteEntry.data.toList.drop 211 = dktJ10_deleteEntry_9 := dk_seg dksJ10_deleteEntry_8 22 rfl rfl
theorem dksJ10_deleteEntry_10 : cJ10_deleteEntry.data.toList.drop 233 = dktJ10_deleteEntry_10 := dk_seg dksJ10_deleteEntry_9 22 rfl rfl
theorem dJ10_deleteEntry_0 : decode cJ10_deleteEntry 0 = .ok (.aload_n 0, 1) := dk_42 (dk_at dksJ10_deleteEntry_0 0 rfl rfl)
theorem dJ10_deleteEntry_1 : decode cJ10_deleteEntry 1 = .ok (.dup, 1) := dk_89 (dk_at dksJ10_deleteEntry_0 1 rfl rfl)
theorem dJ10_deleteEntry_2 : decode cJ10_deleteEntry 2 = .ok (.getfield 13, 3) := dk_180 0 13 (dk_at dksJ10_deleteEntry_0 2 rfl rfl)
theorem dJ10_deleteEntry_5 : decode cJ10_deleteEntry 5 = .ok (.iconst 1, 1) := dk_4 (dk_at dksJ10_deleteEntry_0 5 rfl rfl)
theorem dJ10_deleteEntry_6 : decode cJ10_deleteEntry 6 = .ok (.iadd, 1) := dk_96 (dk_at dksJ10_deleteEntry_0 6 rfl rfl)
theorem dJ10_deleteEntry_7 : decode cJ10_deleteEntry 7 = .ok (.putfield 13, 3) := dk_181 0 13 (dk_at dksJ10_deleteEntry_0 7 rfl rfl)
theorem dJ10_deleteEntry_10 : decode cJ10_deleteEntry 10 = .ok (.aload_n 0, 1) := dk_42 (dk_at dksJ10_deleteEntry_0 10 rfl rfl)
theorem dJ10_deleteEntry_11 : decode cJ10_deleteEntry 11 = .ok (.dup, 1) := dk_89 (dk_at dksJ10_deleteEntry_0 11 rfl rfl)
theorem dJ10_deleteEntry_12 : decode cJ10_deleteEntry 12 = .ok (.getfield 7, 3) := dk_180 0 7 (dk_at dksJ10_deleteEntry_0 12 rfl rfl)
theorem dJ10_deleteEntry_15 : decode cJ10_deleteEntry 15 = .ok (.iconst 1, 1) := dk_4 (dk_at dksJ10_deleteEntry_0 15 rfl rfl)
theorem dJ10_deleteEntry_16 : decode cJ10_deleteEntry 16 = .ok (.isub, 1) := dk_100 (dk_at dksJ10_deleteEntry_0 16 rfl rfl)
theorem dJ10_deleteEntry_17 : decode cJ10_deleteEntry 17 = .ok (.putfield 7, 3) := dk_181 0 7 (dk_at dksJ10_deleteEntry_0 17 rfl rfl)
theorem dJ10_deleteEntry_20 : decode cJ10_deleteEntry 20 = .ok (.aload_n 1, 1) := dk_43 (dk_at dksJ10_deleteEntry_0 20 rfl rfl)
theorem dJ10_deleteEntry_21 : decode cJ10_deleteEntry 21 = .ok (.getfield 111, 3) := dk_180 0 111 (dk_at dksJ10_deleteEntry_0 21 rfl rfl)
theorem dJ10_deleteEntry_24 : decode cJ10_deleteEntry 24 = .ok (.ifnull 33, 3) := dk_198 0 33 (dk_at dksJ10_deleteEntry_1 0 rfl rfl)
theorem dJ10_deleteEntry_27 : decode cJ10_deleteEntry 27 = .ok (.aload_n 1, 1) := dk_43 (dk_at dksJ10_deleteEntry_1 3 rfl rfl)
theorem dJ10_deleteEntry_28 : decode cJ10_deleteEntry 28 = .ok (.getfield 114, 3) := dk_180 0 114 (dk_at dksJ10_deleteEntry_1 4 rfl rfl)
theorem dJ10_deleteEntry_31 : decode cJ10_deleteEntry 31 = .ok (.ifnull 26, 3) := dk_198 0 26 (dk_at dksJ10_deleteEntry_1 7 rfl rfl)
theorem dJ10_deleteEntry_34 : decode cJ10_deleteEntry 34 = .ok (.aload_n 1, 1) := dk_43 (dk_at dksJ10_deleteEntry_1 10 rfl rfl)
theorem dJ10_deleteEntry_35 : decode cJ10_deleteEntry 35 = .ok (.invokestatic 68, 3) := dk_184 0 68 (dk_at dksJ10_deleteEntry_1 11 rfl rfl)
theorem dJ10_deleteEntry_38 : decode cJ10_deleteEntry 38 = .ok (.astore_n 2, 1) := dk_77 (dk_at dksJ10_deleteEntry_1 14 rfl rfl)
theorem dJ10_deleteEntry_39 : decode cJ10_deleteEntry 39 = .ok (.aload_n 1, 1) := dk_43 (dk_at dksJ10_deleteEntry_1 15 rfl rfl)
theorem dJ10_deleteEntry_40 : decode cJ10_deleteEntry 40 = .ok (.aload_n 2, 1) := dk_44 (dk_at dksJ10_deleteEntry_1 16 rfl rfl)
theorem dJ10_deleteEntry_41 : decode cJ10_deleteEntry 41 = .ok (.getfield 105, 3) := dk_180 0 105 (dk_at dksJ10_deleteEntry_1 17 rfl rfl)
theorem dJ10_deleteEntry_44 : decode cJ10_deleteEntry 44 = .ok (.putfield 105, 3) := dk_181 0 105 (dk_at dksJ10_deleteEntry_1 20 rfl rfl)
theorem dJ10_deleteEntry_47 : decode cJ10_deleteEntry 47 = .ok (.aload_n 1, 1) := dk_43 (dk_at dksJ10_deleteEntry_1 23 rfl rfl)
theorem dJ10_deleteEntry_48 : decode cJ10_deleteEntry 48 = .ok (.aload_n 2, 1) := dk_44 (dk_at dksJ10_deleteEntry_2 0 rfl rfl)
theorem dJ10_deleteEntry_49 : decode cJ10_deleteEntry 49 = .ok (.getfield 58, 3) := dk_180 0 58 (dk_at dksJ10_deleteEntry_2 1 rfl rfl)
theorem dJ10_deleteEntry_52 : decode cJ10_deleteEntry 52 = .ok (.putfield 58, 3) := dk_181 0 58 (dk_at dksJ10_deleteEntry_2 4 rfl rfl)
theorem dJ10_deleteEntry_55 : decode cJ10_deleteEntry 55 = .ok (.aload_n 2, 1) := dk_44 (dk_at dksJ10_deleteEntry_2 7 rfl rfl)
theorem dJ10_deleteEntry_56 : decode cJ10_deleteEntry 56 = .ok (.astore_n 1, 1) := dk_76 (dk_at dksJ10_deleteEntry_2 8 rfl rfl)
theorem dJ10_deleteEntry_57 : decode cJ10_deleteEntry 57 = .ok (.aload_n 1, 1) := dk_43 (dk_at dksJ10_deleteEntry_2 9 rfl rfl)
theorem dJ10_deleteEntry_58 : decode cJ10_deleteEntry 58 = .ok (.getfield 111, 3) := dk_180 0 111 (dk_at dksJ10_deleteEntry_2 10 rfl rfl)
theorem dJ10_deleteEntry_61 : decode cJ10_deleteEntry 61 = .ok (.ifnull 10, 3) := dk_198 0 10 (dk_at dksJ10_deleteEntry_2 13 rfl rfl)
theorem dJ10_deleteEntry_64 : decode cJ10_deleteEntry 64 = .ok (.aload_n 1, 1) := dk_43 (dk_at dksJ10_deleteEntry_2 16 rfl rfl)
theorem dJ10_deleteEntry_65 : decode cJ10_deleteEntry 65 = .ok (.getfield 111, 3) := dk_180 0 111 (dk_at dksJ10_deleteEntry_2 17 rfl rfl)
theorem dJ10_deleteEntry_68 : decode cJ10_deleteEntry 68 = .ok (.goto 7, 3) := dk_167 0 7 (dk_at dksJ10_deleteEntry_2 20 rfl rfl)
theorem dJ10_deleteEntry_71 : decode cJ10_deleteEntry 71 = .ok (.aload_n 1, 1) := dk_43 (dk_at dksJ10_deleteEntry_2 23 rfl rfl)
theorem dJ10_deleteEntry_72 : decode cJ10_deleteEntry 72 = .ok (.getfield 114, 3) := dk_180 0 114 (dk_at dksJ10_deleteEntry_3 0 rfl rfl)
theorem dJ10_deleteEntry_75 : decode cJ10_deleteEntry 75 = .ok (.astore_n 2, 1) := dk_77 (dk_at dksJ10_deleteEntry_3 3 rfl rfl)
theorem dJ10_deleteEntry_76 : decode cJ10_deleteEntry 76 = .ok (.aload_n 2, 1) := dk_44 (dk_at dksJ10_deleteEntry_3 4 rfl rfl)
theorem dJ10_deleteEntry_77 : decode cJ10_deleteEntry 77 = .ok (.ifnull 87, 3) := dk_198 0 87 (dk_at dksJ10_deleteEntry_3 5 rfl rfl)
theorem dJ10_deleteEntry_80 : decode cJ10_deleteEntry 80 = .ok (.aload_n 2, 1) := dk_44 (dk_at dksJ10_deleteEntry_3 8 rfl rfl)
theorem dJ10_deleteEntry_81 : decode cJ10_deleteEntry 81 = .ok (.aload_n 1, 1) := dk_43 (dk_at dksJ10_deleteEntry_3 9 rfl rfl)
theorem dJ10_deleteEntry_82 : decode cJ10_deleteEntry 82 = .ok (.getfield 124, 3) := dk_180 0 124 (dk_at dksJ10_deleteEntry_3 10 rfl rfl)
theorem dJ10_deleteEntry_85 : decode cJ10_deleteEntry 85 = .ok (.putfield 124, 3) := dk_181 0 124 (dk_at dksJ10_deleteEntry_3 13 rfl rfl)
theorem dJ10_deleteEntry_88 : decode cJ10_deleteEntry 88 = .ok (.aload_n 1, 1) := dk_43 (dk_at dksJ10_deleteEntry_3 16 rfl rfl)
theorem dJ10_deleteEntry_89 : decode cJ10_deleteEntry 89 = .ok (.getfield 124, 3) := dk_180 0 124 (dk_at dksJ10_deleteEntry_3 17 rfl rfl)
theorem dJ10_deleteEntry_92 : decode cJ10_deleteEntry 92 = .ok (.ifnonnull 11, 3) := dk_199 0 11 (dk_at dksJ10_deleteEntry_3 20 rfl rfl)
theorem dJ10_deleteEntry_95 : decode cJ10_deleteEntry 95 = .ok (.aload_n 0, 1) := dk_42 (dk_at dksJ10_deleteEntry_3 23 rfl rfl)
theorem dJ10_deleteEntry_96 : decode cJ10_deleteEntry 96 = .ok (.aload_n 2, 1) := dk_44 (dk_at dksJ10_deleteEntry_4 0 rfl rfl)
theorem dJ10_deleteEntry_97 : decode cJ10_deleteEntry 97 = .ok (.putfield 101, 3) := dk_181 0 101 (dk_at dksJ10_deleteEntry_4 1 rfl rfl)
theorem dJ10_deleteEntry_100 : decode cJ10_deleteEntry 100 = .ok (.goto 33, 3) := dk_167 0 33 (dk_at dksJ10_deleteEntry_4 4 rfl rfl)
theorem dJ10_deleteEntry_103 : decode cJ10_deleteEntry 103 = .ok (.aload_n 1, 1) := dk_43 (dk_at dksJ10_deleteEntry_4 7 rfl rfl)
theorem dJ10_deleteEntry_104 : decode cJ10_deleteEntry 104 = .ok (.aload_n 1, 1) := dk_43 (dk_at dksJ10_deleteEntry_4 8 rfl rfl)
theorem dJ10_deleteEntry_105 : decode cJ10_deleteEntry 105 = .ok (.getfield 124, 3) := dk_180 0 124 (dk_at dksJ10_deleteEntry_4 9 rfl rfl)
theorem dJ10_deleteEntry_108 : decode cJ10_deleteEntry 108 = .ok (.getfield 111, 3) := dk_180 0 111 (dk_at dksJ10_deleteEntry_4 12 rfl rfl)
theorem dJ10_deleteEntry_111 : decode cJ10_deleteEntry 111 = .ok (.if_acmp .ne 14, 3) := dk_166 0 14 (dk_at dksJ10_deleteEntry_4 15 rfl rfl)
theorem dJ10_deleteEntry_114 : decode cJ10_deleteEntry 114 = .ok (.aload_n 1, 1) := dk_43 (dk_at dksJ10_deleteEntry_4 18 rfl rfl)
theorem dJ10_deleteEntry_115 : decode cJ10_deleteEntry 115 = .ok (.getfield 124, 3) := dk_180 0 124 (dk_at dksJ10_deleteEntry_4 19 rfl rfl)
theorem dJ10_deleteEntry_118 : decode cJ10_deleteEntry 118 = .ok (.aload_n 2, 1) := dk_44 (dk_at dksJ10_deleteEntry_4 22 rfl rfl)
theorem dJ10_deleteEntry_119 : decode cJ10_deleteEntry 119 = .ok (.putfield 111, 3) := dk_181 0 111 (dk_at dksJ10_deleteEntry_5 0 rfl rfl)
theorem dJ10_deleteEntry_122 : decode cJ10_deleteEntry 122 = .ok (.goto 11, 3) := dk_167 0 11 (dk_at dksJ10_deleteEntry_5 3 rfl rfl)
theorem dJ10_deleteEntry_125 : decode cJ10_deleteEntry 125 = .ok (.aload_n 1, 1) := dk_43 (dk_at dksJ10_deleteEntry_5 6 rfl rfl)
theorem dJ10_deleteEntry_126 : decode cJ10_deleteEntry 126 = .ok (.getfield 124, 3) := dk_180 0 124 (dk_at dksJ10_deleteEntry_5 7 rfl rfl)
theorem dJ10_deleteEntry_129 : decode cJ10_deleteEntry 129 = .ok (.aload_n 2, 1) := dk_44 (dk_at dksJ10_deleteEntry_5 10 rfl rfl)
theorem dJ10_deleteEntry_130 : decode cJ10_deleteEntry 130 = .ok (.putfield 114, 3) := dk_181 0 114 (dk_at dksJ10_deleteEntry_5 11 rfl rfl)
theorem dJ10_deleteEntry_133 : decode cJ10_deleteEntry 133 = .ok (.aload_n 1, 1) := dk_43 (dk_at dksJ10_deleteEntry_5 14 rfl rfl)
theorem dJ10_deleteEntry_134 : decode cJ10_deleteEntry 134 = .ok (.aload_n 1, 1) := dk_43 (dk_at dksJ10_deleteEntry_5 15 rfl rfl)
theorem dJ10_deleteEntry_135 : decode cJ10_deleteEntry 135 = .ok (.aload_n 1, 1) := dk_43 (dk_at dksJ10_deleteEntry_5 16 rfl rfl)
theorem dJ10_deleteEntry_136 : decode cJ10_deleteEntry 136 = .ok (.aconst_null, 1) := dk_1 (dk_at dksJ10_deleteEntry_5 17 rfl rfl)
theorem dJ10_deleteEntry_137 : decode cJ10_deleteEntry 137 = .ok (.dup_x1, 1) := dk_90 (dk_at dksJ10_deleteEntry_5 18 rfl rfl)
theorem dJ10_deleteEntry_138 : decode cJ10_deleteEntry 138 = .ok (.putfield 124, 3) := dk_181 0 124 (dk_at dksJ10_deleteEntry_5 19 rfl rfl)
theorem dJ10_deleteEntry_141 : decode cJ10_deleteEntry 141 = .ok (.dup_x1, 1) := dk_90 (dk_at dksJ10_deleteEntry_5 22 rfl rfl)
theorem dJ10_deleteEntry_142 : decode cJ10_deleteEntry 142 = .ok (.putfield 114, 3) := dk_181 0 114 (dk_at dksJ10_deleteEntry_6 0 rfl rfl)
theorem dJ10_deleteEntry_145 : decode cJ10_deleteEntry 145 = .ok (.putfield 111, 3) := dk_181 0 111 (dk_at dksJ10_deleteEntry_6 3 rfl rfl)
theorem dJ10_deleteEntry_148 : decode cJ10_deleteEntry 148 = .ok (.aload_n 1, 1) := dk_43 (dk_at dksJ10_deleteEntry_6 6 rfl rfl)
theorem dJ10_deleteEntry_149 : decode cJ10_deleteEntry 149 = .ok (.getfield 290, 3) := dk_180 1 34 (dk_at dksJ10_deleteEntry_6 7 rfl rfl)
theorem dJ10_deleteEntry_152 : decode cJ10_deleteEntry 152 = .ok (.iconst 1, 1) := dk_4 (dk_at dksJ10_deleteEntry_6 10 rfl rfl)
theorem dJ10_deleteEntry_153 : decode cJ10_deleteEntry 153 = .ok (.if_icmp .ne 92, 3) := dk_160 0 92 (dk_at dksJ10_deleteEntry_6 11 rfl rfl)
theorem dJ10_deleteEntry_156 : decode cJ10_deleteEntry 156 = .ok (.aload_n 0, 1) := dk_42 (dk_at dksJ10_deleteEntry_6 14 rfl rfl)
theorem dJ10_deleteEntry_157 : decode cJ10_deleteEntry 157 = .ok (.aload_n 2, 1) := dk_44 (dk_at dksJ10_deleteEntry_6 15 rfl rfl)
theorem dJ10_deleteEntry_158 : decode cJ10_deleteEntry 158 = .ok (.invokevirtual 317, 3) := dk_182 1 61 (dk_at dksJ10_deleteEntry_6 16 rfl rfl)
theorem dJ10_deleteEntry_161 : decode cJ10_deleteEntry 161 = .ok (.goto 84, 3) := dk_167 0 84 (dk_at dksJ10_deleteEntry_6 19 rfl rfl)
theorem dJ10_deleteEntry_164 : decode cJ10_deleteEntry 164 = .ok (.aload_n 1, 1) := dk_43 (dk_at dksJ10_deleteEntry_6 22 rfl rfl)
theorem dJ10_deleteEntry_165 : decode cJ10_deleteEntry 165 = .ok (.getfield 124, 3) := dk_180 0 124 (dk_at dksJ10_deleteEntry_7 0 rfl rfl)
theorem dJ10_deleteEntry_168 : decode cJ10_deleteEntry 168 = .ok (.ifnonnull 11, 3) := dk_199 0 11 (dk_at dksJ10_deleteEntry_7 3 rfl rfl)
theorem dJ10_deleteEntry_171 : decode cJ10_deleteEntry 171 = .ok (.aload_n 0, 1) := dk_42 (dk_at dksJ10_deleteEntry_7 6 rfl rfl)
theorem dJ10_deleteEntry_172 : decode cJ10_deleteEntry 172 = .ok (.aconst_null, 1) := dk_1 (dk_at dksJ10_deleteEntry_7 7 rfl rfl)
theorem dJ10_deleteEntry_173 : decode cJ10_deleteEntry 173 = .ok (.putfield 101, 3) := dk_181 0 101 (dk_at dksJ10_deleteEntry_7 8 rfl rfl)
theorem dJ10_deleteEntry_176 : decode cJ10_deleteEntry 176 = .ok (.goto 69, 3) := dk_167 0 69 (dk_at dksJ10_deleteEntry_7 11 rfl rfl)
theorem dJ10_deleteEntry_179 : decode cJ10_deleteEntry 179 = .ok (.aload_n 1, 1) := dk_43 (dk_at dksJ10_deleteEntry_7 14 rfl rfl)
theorem dJ10_deleteEntry_180 : decode cJ10_deleteEntry 180 = .ok (.getfield 290, 3) := dk_180 1 34 (dk_at dksJ10_deleteEntry_7 15 rfl rfl)
theorem dJ10_deleteEntry_183 : decode cJ10_deleteEntry 183 = .ok (.iconst 1, 1) := dk_4 (dk_at dksJ10_deleteEntry_7 18 rfl rfl)
theorem dJ10_deleteEntry_184 : decode cJ10_deleteEntry 184 = .ok (.if_icmp .ne 8, 3) := dk_160 0 8 (dk_at dksJ10_deleteEntry_7 19 rfl rfl)
theorem dJ10_deleteEntry_187 : decode cJ10_deleteEntry 187 = .ok (.aload_n 0, 1) := dk_42 (dk_at dksJ10_deleteEntry_7 22 rfl rfl)
theorem dJ10_deleteEntry_188 : decode cJ10_deleteEntry 188 = .ok (.aload_n 1, 1) := dk_43 (dk_at dksJ10_deleteEntry_7 23 rfl rfl)
theorem dJ10_deleteEntry_189 : decode cJ10_deleteEntry 189 = .ok (.invokevirtual 317, 3) := dk_182 1 61 (dk_at dksJ10_deleteEntry_8 0 rfl rfl)
theorem dJ10_deleteEntry_192 : decode cJ10_deleteEntry 192 = .ok (.aload_n 1, 1) := dk_43 (dk_at dksJ10_deleteEntry_8 3 rfl rfl)
theorem dJ10_deleteEntry_193 : decode cJ10_deleteEntry 193 = .ok (.getfield 124, 3) := dk_180 0 124 (dk_at dksJ10_deleteEntry_8 4 rfl rfl)
theorem dJ10_deleteEntry_196 : decode cJ10_deleteEntry 196 = .ok (.ifnull 49, 3) := dk_198 0 49 (dk_at dksJ10_deleteEntry_8 7 rfl rfl)
theorem dJ10_deleteEntry_199 : decode cJ10_deleteEntry 199 = .ok (.aload_n 1, 1) := dk_43 (dk_at dksJ10_deleteEntry_8 10 rfl rfl)
theorem dJ10_deleteEntry_200 : decode cJ10_deleteEntry 200 = .ok (.aload_n 1, 1) := dk_43 (dk_at dksJ10_deleteEntry_8 11 rfl rfl)
theorem dJ10_deleteEntry_201 : decode cJ10_deleteEntry 201 = .ok (.getfield 124, 3) := dk_180 0 124 (dk_at dksJ10_deleteEntry_8 12 rfl rfl)
theorem dJ10_deleteEntry_204 : decode cJ10_deleteEntry 204 = .ok (.getfield 111, 3) := dk_180 0 111 (dk_at dksJ10_deleteEntry_8 15 rfl rfl)
theorem dJ10_deleteEntry_207 : decode cJ10_deleteEntry 207 = .ok (.if_acmp .ne 14, 3) := dk_166 0 14 (dk_at dksJ10_deleteEntry_8 18 rfl rfl)
theorem dJ10_deleteEntry_210 : decode cJ10_deleteEntry 210 = .ok (.aload_n 1, 1) := dk_43 (dk_at dksJ10_deleteEntry_8 21 rfl rfl)
theorem dJ10_deleteEntry_211 : decode cJ10_deleteEntry 211 = .ok (.getfield 124, 3) := dk_180 0 124 (dk_at dksJ10_deleteEntry_9 0 rfl rfl)
theorem dJ10_deleteEntry_214 : decode cJ10_deleteEntry 214 = .ok (.aconst_null, 1) := dk_1 (dk_at dksJ10_deleteEntry_9 3 rfl rfl)
theorem dJ10_deleteEntry_215 : decode cJ10_deleteEntry 215 = .ok (.putfield 111, 3) := dk_181 0 111 (dk_at dksJ10_deleteEntry_9 4 rfl rfl)
theorem dJ10_deleteEntry_218 : decode cJ10_deleteEntry 218 = .ok (.goto 22, 3) := dk_167 0 22 (dk_at dksJ10_deleteEntry_9 7 rfl rfl)
theorem dJ10_deleteEntry_221 : decode cJ10_deleteEntry 221 = .ok (.aload_n 1, 1) := dk_43 (dk_at dksJ10_deleteEntry_9 10 rfl rfl)
theorem dJ10_deleteEntry_222 : decode cJ10_deleteEntry 222 = .ok (.aload_n 1, 1) := dk_43 (dk_at dksJ10_deleteEntry_9 11 rfl rfl)
theorem dJ10_deleteEntry_223 : decode cJ10_deleteEntry 223 = .ok (.getfield 124, 3) := dk_180 0 124 (dk_at dksJ10_deleteEntry_9 12 rfl rfl)
theorem dJ10_deleteEntry_226 : decode cJ10_deleteEntry 226 = .ok (.getfield 114, 3) := dk_180 0 114 (dk_at dksJ10_deleteEntry_9 15 rfl rfl)
theorem dJ10_deleteEntry_229 : decode cJ10_deleteEntry 229 = .ok (.if_acmp .ne 11, 3) := dk_166 0 11 (dk_at dksJ10_deleteEntry_9 18 rfl rfl)
theorem dJ10_deleteEntry_232 : decode cJ10_deleteEntry 232 = .ok (.aload_n 1, 1) := dk_43 (dk_at dksJ10_deleteEntry_9 21 rfl rfl)
theorem dJ10_deleteEntry_233 : decode cJ10_deleteEntry 233 = .ok (.getfield 124, 3) := dk_180 0 124 (dk_at dksJ10_deleteEntry_10 0 rfl rfl)
theorem dJ10_deleteEntry_236 : decode cJ10_deleteEntry 236 = .ok (.aconst_null, 1) := dk_1 (dk_at dksJ10_deleteEntry_10 3 rfl rfl)
theorem dJ10_deleteEntry_237 : decode cJ10_deleteEntry 237 = .ok (.putfield 114, 3) := dk_181 0 114 (dk_at dksJ10_deleteEntry_10 4 rfl rfl)
theorem dJ10_deleteEntry_240 : decode cJ10_deleteEntry 240 = .ok (.aload_n 1, 1) := dk_43 (dk_at dksJ10_deleteEntry_10 7 rfl rfl)
theorem dJ10_deleteEntry_241 : decode cJ10_deleteEntry 241 = .ok (.aconst_null, 1) := dk_1 (dk_at dksJ10_deleteEntry_10 8 rfl rfl)
theorem dJ10_deleteEntry_242 : decode cJ10_deleteEntry 242 = .ok (.putfield 124, 3) := dk_181 0 124 (dk_at dksJ10_deleteEntry_10 9 rfl rfl)
theorem dJ10_deleteEntry_245 : decode cJ10_deleteEntry 245 = .ok (.return_, 1) := dk_177 (dk_at dksJ10_deleteEntry_10 12 rfl rfl)
abbrev cJ10_fixAfterDeletion : ByteArray := prog_87_method_85_code
def yJ10_fixAfterDeletion : MethodName := ⟨RJ10, "fixAfterDeletion", "(Ljava/util/TreeMap$Entry;)V"⟩
def dkwJ10_fixAfterDeletion_14 : List UInt8 := [182, 1, 58, 42, 180, 0, 101, 76, 167, 254, 170, 43, 4, 184, 1, 51, 177]
abbrev dktJ10_fixAfterDeletion_14 : List UInt8 := dkwJ10_fixAfterDeletion_14 ++ []
def dkwJ10_fixAfterDeletion_13 : List UInt8 := [184, 1, 51, 43, 184, 1, 38, 4, 184, 1, 51, 44, 184, 1, 41, 4, 184, 1, 51, 42, 43, 184, 1, 38]
abbrev dktJ10_fixAfterDeletion_13 : List UInt8 := dkwJ10_fixAfterDeletion_13 ++ dktJ10_fixAfterDeletion_14
def dkwJ10_fixAfterDeletion_12 : List UInt8 := [184, 1, 51, 42, 44, 182, 1, 55, 43, 184, 1, 38, 184, 1, 41, 77, 44, 43, 184, 1, 38, 184, 1, 47]
abbrev dktJ10_fixAfterDeletion_12 : List UInt8 := dkwJ10_fixAfterDeletion_12 ++ dktJ10_fixAfterDeletion_13
def dkwJ10_fixAfterDeletion_11 : List UInt8 := [167, 0, 80, 44, 184, 1, 41, 184, 1, 47, 4, 160, 0, 29, 44, 184, 1, 44, 4, 184, 1, 51, 44, 3]
abbrev dktJ10_fixAfterDeletion_11 : List UInt8 := dkwJ10_fixAfterDeletion_11 ++ dktJ10_fixAfterDeletion_12
def dkwJ10_fixAfterDeletion_10 : List UInt8 := [160, 0, 27, 44, 184, 1, 41, 184, 1, 47, 4, 160, 0, 16, 44, 3, 184, 1, 51, 43, 184, 1, 38, 76]
abbrev dktJ10_fixAfterDeletion_10 : List UInt8 := dkwJ10_fixAfterDeletion_10 ++ dktJ10_fixAfterDeletion_11
def dkwJ10_fixAfterDeletion_9 : List UInt8 := [42, 43, 184, 1, 38, 182, 1, 58, 43, 184, 1, 38, 184, 1, 41, 77, 44, 184, 1, 44, 184, 1, 47, 4]
abbrev dktJ10_fixAfterDeletion_9 : List UInt8 := dkwJ10_fixAfterDeletion_9 ++ dktJ10_fixAfterDeletion_10
def dkwJ10_fixAfterDeletion_8 : List UInt8 := [184, 1, 41, 77, 44, 184, 1, 47, 154, 0, 32, 44, 4, 184, 1, 51, 43, 184, 1, 38, 3, 184, 1, 51]
abbrev dktJ10_fixAfterDeletion_8 : List UInt8 := dkwJ10_fixAfterDeletion_8 ++ dktJ10_fixAfterDeletion_9
def dkwJ10_fixAfterDeletion_7 : List UInt8 := [4, 184, 1, 51, 42, 43, 184, 1, 38, 182, 1, 55, 42, 180, 0, 101, 76, 167, 255, 73, 43, 184, 1, 38]
abbrev dktJ10_fixAfterDeletion_7 : List UInt8 := dkwJ10_fixAfterDeletion_7 ++ dktJ10_fixAfterDeletion_8
def dkwJ10_fixAfterDeletion_6 : List UInt8 := [77, 44, 43, 184, 1, 38, 184, 1, 47, 184, 1, 51, 43, 184, 1, 38, 4, 184, 1, 51, 44, 184, 1, 44]
abbrev dktJ10_fixAfterDeletion_6 : List UInt8 := dkwJ10_fixAfterDeletion_6 ++ dktJ10_fixAfterDeletion_7
def dkwJ10_fixAfterDeletion_5 : List UInt8 := [184, 1, 41, 4, 184, 1, 51, 44, 3, 184, 1, 51, 42, 44, 182, 1, 58, 43, 184, 1, 38, 184, 1, 44]
abbrev dktJ10_fixAfterDeletion_5 : List UInt8 := dkwJ10_fixAfterDeletion_5 ++ dktJ10_fixAfterDeletion_6
def dkwJ10_fixAfterDeletion_4 : List UInt8 := [184, 1, 51, 43, 184, 1, 38, 76, 167, 0, 80, 44, 184, 1, 44, 184, 1, 47, 4, 160, 0, 29, 44]
abbrev dktJ10_fixAfterDeletion_4 : List UInt8 := dkwJ10_fixAfterDeletion_4 ++ dktJ10_fixAfterDeletion_5
def dkwJ10_fixAfterDeletion_3 : List UInt8 := [184, 1, 41, 184, 1, 47, 4, 160, 0, 27, 44, 184, 1, 44, 184, 1, 47, 4, 160, 0, 16, 44, 3]
abbrev dktJ10_fixAfterDeletion_3 : List UInt8 := dkwJ10_fixAfterDeletion_3 ++ dktJ10_fixAfterDeletion_4
def dkwJ10_fixAfterDeletion_2 : List UInt8 := [184, 1, 38, 3, 184, 1, 51, 42, 43, 184, 1, 38, 182, 1, 55, 43, 184, 1, 38, 184, 1, 44, 77, 44]
abbrev dktJ10_fixAfterDeletion_2 : List UInt8 := dkwJ10_fixAfterDeletion_2 ++ dktJ10_fixAfterDeletion_3
def dkwJ10_fixAfterDeletion_1 : List UInt8 := [166, 0, 162, 43, 184, 1, 38, 184, 1, 44, 77, 44, 184, 1, 47, 154, 0, 32, 44, 4, 184, 1, 51, 43]
abbrev dktJ10_fixAfterDeletion_1 : List UInt8 := dkwJ10_fixAfterDeletion_1 ++ dktJ10_fixAfterDeletion_2
def dkwJ10_fixAfterDeletion_0 : List UInt8 := [43, 42, 180, 0, 101, 165, 1, 84, 43, 184, 1, 47, 4, 160, 1, 76, 43, 43, 184, 1, 38, 184, 1, 41]
abbrev dktJ10_fixAfterDeletion_0 : List UInt8 := dkwJ10_fixAfterDeletion_0 ++ dktJ10_fixAfterDeletion_1
theorem dksJ10_fixAfterDeletion_0 : cJ10_fixAfterDeletion.data.toList.drop 0 = dktJ10_fixAfterDeletion_0 := by decide +kernel
theorem dksJ10_fixAfterDeletion_1 : cJ10_fixAfterDeletion.data.toList.drop 24 = dktJ10_fixAfterDeletion_1 := dk_seg dksJ10_fixAfterDeletion_0 24 rfl rfl
theorem dksJ10_fixAfterDeletion_2 : cJ10_fixAfterDeletion.data.toList.drop 48 = dktJ10_fixAfterDeletion_2 := dk_seg dksJ10_fixAfterDeletion_1 24 rfl rfl
theorem dksJ10_fixAfterDeletion_3 : cJ10_fixAfterDeletion.data.toList.drop 72 = dktJ10_fixAfterDeletion_3 := dk_seg dksJ10_fixAfterDeletion_2 24 rfl rfl
theorem dksJ10_fixAfterDeletion_4 : cJ10_fixAfterDeletion.data.toList.drop 95 = dktJ10_fixAfterDeletion_4 := dk_seg dksJ10_fixAfterDeletion_3 23 rfl rfl
theorem dksJ10_fixAfterDeletion_5 : cJ10_fixAfterDeletion.data.toList.drop 118 = dktJ10_fixAfterDeletion_5 := dk_seg dksJ10_fixAfterDeletion_4 23 rfl rfl
theorem dksJ10_fixAfterDeletion_6 : cJ10_fixAfterDeletion.data.toList.drop 142 = dktJ10_fixAfterDeletion_6 := dk_seg dksJ10_fixAfterDeletion_5 24 rfl rfl
theorem dksJ10_fixAfterDeletion_7 : cJ10_fixAfterDeletion.data.toList.drop 166 = dktJ10_fixAfterDeletion_7 := dk_seg dksJ10_fixAfterDeletion_6 24 rfl rfl
theorem dksJ10_fixAfterDeletion_8 : cJ10_fixAfterDeletion.data.toList.drop 190 = dktJ10_fixAfterDeletion_8 := dk_seg dksJ10_fixAfterDeletion_7 24 rfl rfl
theorem dksJ10_fixAfterDeletion_9 : cJ10_fixAfterDeletion.data.toList.drop 214 = dktJ10_fixAfterDeletion_9 := dk_seg dksJ10_fixAfterDeletion_8 24 rfl rfl
theorem dksJ10_fixAfterDeletion_10 : cJ10_fixAfterDeletion.data.toList.drop 238 = dktJ10_fixAfterDeletion_10 := dk_seg dksJ10_fixAfterDeletion_9 24 rfl rfl
theorem dksJ10_fixAfterDeletion_11 : cJ10_fixAfterDeletion.data.toList.drop 262 = dktJ10_fixAfterDeletion_11 := dk_seg dksJ10_fixAfterDeletion_10 24 rfl rfl
theorem dksJ10_fixAfterDeletion_12 : cJ10_fixAfterDeletion.data.toList.drop 286 = dktJ10_fixAfterDeletion_12 := dk_seg dksJ10_fixAfterDeletion_11 24 rfl rfl
theorem dksJ10_fixAfterDeletion_13 : cJ10_fixAfterDeletion.data.toList.drop 310 = dktJ10_fixAfterDeletion_13 := dk_seg dksJ10_fixAfterDeletion_12 24 rfl rfl
theorem dksJ10_fixAfterDeletion_14 : cJ10_fixAfterDeletion.data.toList.drop 334 = dktJ10_fixAfterDeletion_14 := dk_seg dksJ10_fixAfterDeletion_13 24 rfl rfl
theorem dJ10_fixAfterDeletion_0 : decode cJ10_fixAfterDeletion 0 = .ok (.aload_n 1, 1) := dk_43 (dk_at dksJ10_fixAfterDeletion_0 0 rfl rfl)
theorem dJ10_fixAfterDeletion_1 : decode cJ10_fixAfterDeletion 1 = .ok (.aload_n 0, 1) := dk_42 (dk_at dksJ10_fixAfterDeletion_0 1 rfl rfl)
theorem dJ10_fixAfterDeletion_2 : decode cJ10_fixAfterDeletion 2 = .ok (.getfield 101, 3) := dk_180 0 101 (dk_at dksJ10_fixAfterDeletion_0 2 rfl rfl)
theorem dJ10_fixAfterDeletion_5 : decode cJ10_fixAfterDeletion 5 = .ok (.if_acmp .eq 340, 3) := dk_165 1 84 (dk_at dksJ10_fixAfterDeletion_0 5 rfl rfl)
theorem dJ10_fixAfterDeletion_8 : decode cJ10_fixAfterDeletion 8 = .ok (.aload_n 1, 1) := dk_43 (dk_at dksJ10_fixAfterDeletion_0 8 rfl rfl)
theorem dJ10_fixAfterDeletion_9 : decode cJ10_fixAfterDeletion 9 = .ok (.invokestatic 303, 3) := dk_184 1 47 (dk_at dksJ10_fixAfterDeletion_0 9 rfl rfl)
theorem dJ10_fixAfterDeletion_12 : decode cJ10_fixAfterDeletion 12 = .ok (.iconst 1, 1) := dk_4 (dk_at dksJ10_fixAfterDeletion_0 12 rfl rfl)
theorem dJ10_fixAfterDeletion_13 : decode cJ10_fixAfterDeletion 13 = .ok (.if_icmp .ne 332, 3) := dk_160 1 76 (dk_at dksJ10_fixAfterDeletion_0 13 rfl rfl)
theorem dJ10_fixAfterDeletion_16 : decode cJ10_fixAfterDeletion 16 = .ok (.aload_n 1, 1) := dk_43 (dk_at dksJ10_fixAfterDeletion_0 16 rfl rfl)
theorem dJ10_fixAfterDeletion_17 : decode cJ10_fixAfterDeletion 17 = .ok (.aload_n 1, 1) := dk_43 (dk_at dksJ10_fixAfterDeletion_0 17 rfl rfl)
theorem dJ10_fixAfterDeletion_18 : decode cJ10_fixAfterDeletion 18 = .ok (.invokestatic 294, 3) := dk_184 1 38 (dk_at dksJ10_fixAfterDeletion_0 18 rfl rfl)
theorem dJ10_fixAfterDeletion_21 : decode cJ10_fixAfterDeletion 21 = .ok (.invokestatic 297, 3) := dk_184 1 41 (dk_at dksJ10_fixAfterDeletion_0 21 rfl rfl)
theorem dJ10_fixAfterDeletion_24 : decode cJ10_fixAfterDeletion 24 = .ok (.if_acmp .ne 162, 3) := dk_166 0 162 (dk_at dksJ10_fixAfterDeletion_1 0 rfl rfl)
theorem dJ10_fixAfterDeletion_27 : decode cJ10_fixAfterDeletion 27 = .ok (.aload_n 1, 1) := dk_43 (dk_at dksJ10_fixAfterDeletion_1 3 rfl rfl)
theorem dJ10_fixAfterDeletion_28 : decode cJ10_fixAfterDeletion 28 = .ok (.invokestatic 294, 3) := dk_184 1 38 (dk_at dksJ10_fixAfterDeletion_1 4 rfl rfl)
theorem dJ10_fixAfterDeletion_31 : decode cJ10_fixAfterDeletion 31 = .ok (.invokestatic 300, 3) := dk_184 1 44 (dk_at dksJ10_fixAfterDeletion_1 7 rfl rfl)
theorem dJ10_fixAfterDeletion_34 : decode cJ10_fixAfterDeletion 34 = .ok (.astore_n 2, 1) := dk_77 (dk_at dksJ10_fixAfterDeletion_1 10 rfl rfl)
theorem dJ10_fixAfterDeletion_35 : decode cJ10_fixAfterDeletion 35 = .ok (.aload_n 2, 1) := dk_44 (dk_at dksJ10_fixAfterDeletion_1 11 rfl rfl)
theorem dJ10_fixAfterDeletion_36 : decode cJ10_fixAfterDeletion 36 = .ok (.invokestatic 303, 3) := dk_184 1 47 (dk_at dksJ10_fixAfterDeletion_1 12 rfl rfl)
theorem dJ10_fixAfterDeletion_39 : decode cJ10_fixAfterDeletion 39 = .ok (.ifCond .ne 32, 3) := dk_154 0 32 (dk_at dksJ10_fixAfterDeletion_1 15 rfl rfl)
theorem dJ10_fixAfterDeletion_42 : decode cJ10_fixAfterDeletion 42 = .ok (.aload_n 2, 1) := dk_44 (dk_at dksJ10_fixAfterDeletion_1 18 rfl rfl)
theorem dJ10_fixAfterDeletion_43 : decode cJ10_fixAfterDeletion 43 = .ok (.iconst 1, 1) := dk_4 (dk_at dksJ10_fixAfterDeletion_1 19 rfl rfl)
theorem dJ10_fixAfterDeletion_44 : decode cJ10_fixAfterDeletion 44 = .ok (.invokestatic 307, 3) := dk_184 1 51 (dk_at dksJ10_fixAfterDeletion_1 20 rfl rfl)
theorem dJ10_fixAfterDeletion_47 : decode cJ10_fixAfterDeletion 47 = .ok (.aload_n 1, 1) := dk_43 (dk_at dksJ10_fixAfterDeletion_1 23 rfl rfl)
theorem dJ10_fixAfterDeletion_48 : decode cJ10_fixAfterDeletion 48 = .ok (.invokestatic 294, 3) := dk_184 1 38 (dk_at dksJ10_fixAfterDeletion_2 0 rfl rfl)
theorem dJ10_fixAfterDeletion_51 : decode cJ10_fixAfterDeletion 51 = .ok (.iconst 0, 1) := dk_3 (dk_at dksJ10_fixAfterDeletion_2 3 rfl rfl)
theorem dJ10_fixAfterDeletion_52 : decode cJ10_fixAfterDeletion 52 = .ok (.invokestatic 307, 3) := dk_184 1 51 (dk_at dksJ10_fixAfterDeletion_2 4 rfl rfl)
theorem dJ10_fixAfterDeletion_55 : decode cJ10_fixAfterDeletion 55 = .ok (.aload_n 0, 1) := dk_42 (dk_at dksJ10_fixAfterDeletion_2 7 rfl rfl)
theorem dJ10_fixAfterDeletion_56 : decode cJ10_fixAfterDeletion 56 = .ok (.aload_n 1, 1) := dk_43 (dk_at dksJ10_fixAfterDeletion_2 8 rfl rfl)
theorem dJ10_fixAfterDeletion_57 : decode cJ10_fixAfterDeletion 57 = .ok (.invokestatic 294, 3) := dk_184 1 38 (dk_at dksJ10_fixAfterDeletion_2 9 rfl rfl)
theorem dJ10_fixAfterDeletion_60 : decode cJ10_fixAfterDeletion 60 = .ok (.invokevirtual 311, 3) := dk_182 1 55 (dk_at dksJ10_fixAfterDeletion_2 12 rfl rfl)
theorem dJ10_fixAfterDeletion_63 : decode cJ10_fixAfterDeletion 63 = .ok (.aload_n 1, 1) := dk_43 (dk_at dksJ10_fixAfterDeletion_2 15 rfl rfl)
theorem dJ10_fixAfterDeletion_64 : decode cJ10_fixAfterDeletion 64 = .ok (.invokestatic 294, 3) := dk_184 1 38 (dk_at dksJ10_fixAfterDeletion_2 16 rfl rfl)
theorem dJ10_fixAfterDeletion_67 : decode cJ10_fixAfterDeletion 67 = .ok (.invokestatic 300, 3) := dk_184 1 44 (dk_at dksJ10_fixAfterDeletion_2 19 rfl rfl)
theorem dJ10_fixAfterDeletion_70 : decode cJ10_fixAfterDeletion 70 = .ok (.astore_n 2, 1) := dk_77 (dk_at dksJ10_fixAfterDeletion_2 22 rfl rfl)
theorem dJ10_fixAfterDeletion_71 : decode cJ10_fixAfterDeletion 71 = .ok (.aload_n 2, 1) := dk_44 (dk_at dksJ10_fixAfterDeletion_2 23 rfl rfl)
theorem dJ10_fixAfterDeletion_72 : decode cJ10_fixAfterDeletion 72 = .ok (.invokestatic 297, 3) := dk_184 1 41 (dk_at dksJ10_fixAfterDeletion_3 0 rfl rfl)
theorem dJ10_fixAfterDeletion_75 : decode cJ10_fixAfterDeletion 75 = .ok (.invokestatic 303, 3) := dk_184 1 47 (dk_at dksJ10_fixAfterDeletion_3 3 rfl rfl)
theorem dJ10_fixAfterDeletion_78 : decode cJ10_fixAfterDeletion 78 = .ok (.iconst 1, 1) := dk_4 (dk_at dksJ10_fixAfterDeletion_3 6 rfl rfl)
theorem dJ10_fixAfterDeletion_79 : decode cJ10_fixAfterDeletion 79 = .ok (.if_icmp .ne 27, 3) := dk_160 0 27 (dk_at dksJ10_fixAfterDeletion_3 7 rfl rfl)
theorem dJ10_fixAfterDeletion_82 : decode cJ10_fixAfterDeletion 82 = .ok (.aload_n 2, 1) := dk_44 (dk_at dksJ10_fixAfterDeletion_3 10 rfl rfl)
theorem dJ10_fixAfterDeletion_83 : decode cJ10_fixAfterDeletion 83 = .ok (.invokestatic 300, 3) := dk_184 1 44 (dk_at dksJ10_fixAfterDeletion_3 11 rfl rfl)
theorem dJ10_fixAfterDeletion_86 : decode cJ10_fixAfterDeletion 86 = .ok (.invokestatic 303, 3) := dk_184 1 47 (dk_at dksJ10_fixAfterDeletion_3 14 rfl rfl)
theorem dJ10_fixAfterDeletion_89 : decode cJ10_fixAfterDeletion 89 = .ok (.iconst 1, 1) := dk_4 (dk_at dksJ10_fixAfterDeletion_3 17 rfl rfl)
theorem dJ10_fixAfterDeletion_90 : decode cJ10_fixAfterDeletion 90 = .ok (.if_icmp .ne 16, 3) := dk_160 0 16 (dk_at dksJ10_fixAfterDeletion_3 18 rfl rfl)
theorem dJ10_fixAfterDeletion_93 : decode cJ10_fixAfterDeletion 93 = .ok (.aload_n 2, 1) := dk_44 (dk_at dksJ10_fixAfterDeletion_3 21 rfl rfl)
theorem dJ10_fixAfterDeletion_94 : decode cJ10_fixAfterDeletion 94 = .ok (.iconst 0, 1) := dk_3 (dk_at dksJ10_fixAfterDeletion_3 22 rfl rfl)
theorem dJ10_fixAfterDeletion_95 : decode cJ10_fixAfterDeletion 95 = .ok (.invokestatic 307, 3) := dk_184 1 51 (dk_at dksJ10_fixAfterDeletion_4 0 rfl rfl)
theorem dJ10_fixAfterDeletion_98 : decode cJ10_fixAfterDeletion 98 = .ok (.aload_n 1, 1) := dk_43 (dk_at dksJ10_fixAfterDeletion_4 3 rfl rfl)
theorem dJ10_fixAfterDeletion_99 : decode cJ10_fixAfterDeletion 99 = .ok (.invokestatic 294, 3) := dk_184 1 38 (dk_at dksJ10_fixAfterDeletion_4 4 rfl rfl)
theorem dJ10_fixAfterDeletion_102 : decode cJ10_fixAfterDeletion 102 = .ok (.astore_n 1, 1) := dk_76 (dk_at dksJ10_fixAfterDeletion_4 7 rfl rfl)
theorem dJ10_fixAfterDeletion_103 : decode cJ10_fixAfterDeletion 103 = .ok (.goto 80, 3) := dk_167 0 80 (dk_at dksJ10_fixAfterDeletion_4 8 rfl rfl)
theorem dJ10_fixAfterDeletion_106 : decode cJ10_fixAfterDeletion 106 = .ok (.aload_n 2, 1) := dk_44 (dk_at dksJ10_fixAfterDeletion_4 11 rfl rfl)
theorem dJ10_fixAfterDeletion_107 : decode cJ10_fixAfterDeletion 107 = .ok (.invokestatic 300, 3) := dk_184 1 44 (dk_at dksJ10_fixAfterDeletion_4 12 rfl rfl)
theorem dJ10_fixAfterDeletion_110 : decode cJ10_fixAfterDeletion 110 = .ok (.invokestatic 303, 3) := dk_184 1 47 (dk_at dksJ10_fixAfterDeletion_4 15 rfl rfl)
theorem dJ10_fixAfterDeletion_113 : decode cJ10_fixAfterDeletion 113 = .ok (.iconst 1, 1) := dk_4 (dk_at dksJ10_fixAfterDeletion_4 18 rfl rfl)
theorem dJ10_fixAfterDeletion_114 : decode cJ10_fixAfterDeletion 114 = .ok (.if_icmp .ne 29, 3) := dk_160 0 29 (dk_at dksJ10_fixAfterDeletion_4 19 rfl rfl)
theorem dJ10_fixAfterDeletion_117 : decode cJ10_fixAfterDeletion 117 = .ok (.aload_n 2, 1) := dk_44 (dk_at dksJ10_fixAfterDeletion_4 22 rfl rfl)
theorem dJ10_fixAfterDeletion_118 : decode cJ10_fixAfterDeletion 118 = .ok (.invokestatic 297, 3) := dk_184 1 41 (dk_at dksJ10_fixAfterDeletion_5 0 rfl rfl)
theorem dJ10_fixAfterDeletion_121 : decode cJ10_fixAfterDeletion 121 = .ok (.iconst 1, 1) := dk_4 (dk_at dksJ10_fixAfterDeletion_5 3 rfl rfl)
theorem dJ10_fixAfterDeletion_122 : decode cJ10_fixAfterDeletion 122 = .ok (.invokestatic 307, 3) := dk_184 1 51 (dk_at dksJ10_fixAfterDeletion_5 4 rfl rfl)
theorem dJ10_fixAfterDeletion_125 : decode cJ10_fixAfterDeletion 125 = .ok (.aload_n 2, 1) := dk_44 (dk_at dksJ10_fixAfterDeletion_5 7 rfl rfl)
theorem dJ10_fixAfterDeletion_126 : decode cJ10_fixAfterDeletion 126 = .ok (.iconst 0, 1) := dk_3 (dk_at dksJ10_fixAfterDeletion_5 8 rfl rfl)
theorem dJ10_fixAfterDeletion_127 : decode cJ10_fixAfterDeletion 127 = .ok (.invokestatic 307, 3) := dk_184 1 51 (dk_at dksJ10_fixAfterDeletion_5 9 rfl rfl)
theorem dJ10_fixAfterDeletion_130 : decode cJ10_fixAfterDeletion 130 = .ok (.aload_n 0, 1) := dk_42 (dk_at dksJ10_fixAfterDeletion_5 12 rfl rfl)
theorem dJ10_fixAfterDeletion_131 : decode cJ10_fixAfterDeletion 131 = .ok (.aload_n 2, 1) := dk_44 (dk_at dksJ10_fixAfterDeletion_5 13 rfl rfl)
theorem dJ10_fixAfterDeletion_132 : decode cJ10_fixAfterDeletion 132 = .ok (.invokevirtual 314, 3) := dk_182 1 58 (dk_at dksJ10_fixAfterDeletion_5 14 rfl rfl)
theorem dJ10_fixAfterDeletion_135 : decode cJ10_fixAfterDeletion 135 = .ok (.aload_n 1, 1) := dk_43 (dk_at dksJ10_fixAfterDeletion_5 17 rfl rfl)
theorem dJ10_fixAfterDeletion_136 : decode cJ10_fixAfterDeletion 136 = .ok (.invokestatic 294, 3) := dk_184 1 38 (dk_at dksJ10_fixAfterDeletion_5 18 rfl rfl)
theorem dJ10_fixAfterDeletion_139 : decode cJ10_fixAfterDeletion 139 = .ok (.invokestatic 300, 3) := dk_184 1 44 (dk_at dksJ10_fixAfterDeletion_5 21 rfl rfl)
theorem dJ10_fixAfterDeletion_142 : decode cJ10_fixAfterDeletion 142 = .ok (.astore_n 2, 1) := dk_77 (dk_at dksJ10_fixAfterDeletion_6 0 rfl rfl)
theorem dJ10_fixAfterDeletion_143 : decode cJ10_fixAfterDeletion 143 = .ok (.aload_n 2, 1) := dk_44 (dk_at dksJ10_fixAfterDeletion_6 1 rfl rfl)
theorem dJ10_fixAfterDeletion_144 : decode cJ10_fixAfterDeletion 144 = .ok (.aload_n 1, 1) := dk_43 (dk_at dksJ10_fixAfterDeletion_6 2 rfl rfl)
theorem dJ10_fixAfterDeletion_145 : decode cJ10_fixAfterDeletion 145 = .ok (.invokestatic 294, 3) := dk_184 1 38 (dk_at dksJ10_fixAfterDeletion_6 3 rfl rfl)
theorem dJ10_fixAfterDeletion_148 : decode cJ10_fixAfterDeletion 148 = .ok (.invokestatic 303, 3) := dk_184 1 47 (dk_at dksJ10_fixAfterDeletion_6 6 rfl rfl)
theorem dJ10_fixAfterDeletion_151 : decode cJ10_fixAfterDeletion 151 = .ok (.invokestatic 307, 3) := dk_184 1 51 (dk_at dksJ10_fixAfterDeletion_6 9 rfl rfl)
theorem dJ10_fixAfterDeletion_154 : decode cJ10_fixAfterDeletion 154 = .ok (.aload_n 1, 1) := dk_43 (dk_at dksJ10_fixAfterDeletion_6 12 rfl rfl)
theorem dJ10_fixAfterDeletion_155 : decode cJ10_fixAfterDeletion 155 = .ok (.invokestatic 294, 3) := dk_184 1 38 (dk_at dksJ10_fixAfterDeletion_6 13 rfl rfl)
theorem dJ10_fixAfterDeletion_158 : decode cJ10_fixAfterDeletion 158 = .ok (.iconst 1, 1) := dk_4 (dk_at dksJ10_fixAfterDeletion_6 16 rfl rfl)
theorem dJ10_fixAfterDeletion_159 : decode cJ10_fixAfterDeletion 159 = .ok (.invokestatic 307, 3) := dk_184 1 51 (dk_at dksJ10_fixAfterDeletion_6 17 rfl rfl)
theorem dJ10_fixAfterDeletion_162 : decode cJ10_fixAfterDeletion 162 = .ok (.aload_n 2, 1) := dk_44 (dk_at dksJ10_fixAfterDeletion_6 20 rfl rfl)
theorem dJ10_fixAfterDeletion_163 : decode cJ10_fixAfterDeletion 163 = .ok (.invokestatic 300, 3) := dk_184 1 44 (dk_at dksJ10_fixAfterDeletion_6 21 rfl rfl)
theorem dJ10_fixAfterDeletion_166 : decode cJ10_fixAfterDeletion 166 = .ok (.iconst 1, 1) := dk_4 (dk_at dksJ10_fixAfterDeletion_7 0 rfl rfl)
theorem dJ10_fixAfterDeletion_167 : decode cJ10_fixAfterDeletion 167 = .ok (.invokestatic 307, 3) := dk_184 1 51 (dk_at dksJ10_fixAfterDeletion_7 1 rfl rfl)
theorem dJ10_fixAfterDeletion_170 : decode cJ10_fixAfterDeletion 170 = .ok (.aload_n 0, 1) := dk_42 (dk_at dksJ10_fixAfterDeletion_7 4 rfl rfl)
theorem dJ10_fixAfterDeletion_171 : decode cJ10_fixAfterDeletion 171 = .ok (.aload_n 1, 1) := dk_43 (dk_at dksJ10_fixAfterDeletion_7 5 rfl rfl)
theorem dJ10_fixAfterDeletion_172 : decode cJ10_fixAfterDeletion 172 = .ok (.invokestatic 294, 3) := dk_184 1 38 (dk_at dksJ10_fixAfterDeletion_7 6 rfl rfl)
theorem dJ10_fixAfterDeletion_175 : decode cJ10_fixAfterDeletion 175 = .ok (.invokevirtual 311, 3) := dk_182 1 55 (dk_at dksJ10_fixAfterDeletion_7 9 rfl rfl)
theorem dJ10_fixAfterDeletion_178 : decode cJ10_fixAfterDeletion 178 = .ok (.aload_n 0, 1) := dk_42 (dk_at dksJ10_fixAfterDeletion_7 12 rfl rfl)
theorem dJ10_fixAfterDeletion_179 : decode cJ10_fixAfterDeletion 179 = .ok (.getfield 101, 3) := dk_180 0 101 (dk_at dksJ10_fixAfterDeletion_7 13 rfl rfl)
theorem dJ10_fixAfterDeletion_182 : decode cJ10_fixAfterDeletion 182 = .ok (.astore_n 1, 1) := dk_76 (dk_at dksJ10_fixAfterDeletion_7 16 rfl rfl)
theorem dJ10_fixAfterDeletion_183 : decode cJ10_fixAfterDeletion 183 = .ok (.goto (-183), 3) := dk_167 255 73 (dk_at dksJ10_fixAfterDeletion_7 17 rfl rfl)
theorem dJ10_fixAfterDeletion_186 : decode cJ10_fixAfterDeletion 186 = .ok (.aload_n 1, 1) := dk_43 (dk_at dksJ10_fixAfterDeletion_7 20 rfl rfl)
theorem dJ10_fixAfterDeletion_187 : decode cJ10_fixAfterDeletion 187 = .ok (.invokestatic 294, 3) := dk_184 1 38 (dk_at dksJ10_fixAfterDeletion_7 21 rfl rfl)
theorem dJ10_fixAfterDeletion_190 : decode cJ10_fixAfterDeletion 190 = .ok (.invokestatic 297, 3) := dk_184 1 41 (dk_at dksJ10_fixAfterDeletion_8 0 rfl rfl)
theorem dJ10_fixAfterDeletion_193 : decode cJ10_fixAfterDeletion 193 = .ok (.astore_n 2, 1) := dk_77 (dk_at dksJ10_fixAfterDeletion_8 3 rfl rfl)
theorem dJ10_fixAfterDeletion_194 : decode cJ10_fixAfterDeletion 194 = .ok (.aload_n 2, 1) := dk_44 (dk_at dksJ10_fixAfterDeletion_8 4 rfl rfl)
theorem dJ10_fixAfterDeletion_195 : decode cJ10_fixAfterDeletion 195 = .ok (.invokestatic 303, 3) := dk_184 1 47 (dk_at dksJ10_fixAfterDeletion_8 5 rfl rfl)
theorem dJ10_fixAfterDeletion_198 : decode cJ10_fixAfterDeletion 198 = .ok (.ifCond .ne 32, 3) := dk_154 0 32 (dk_at dksJ10_fixAfterDeletion_8 8 rfl rfl)
theorem dJ10_fixAfterDeletion_201 : decode cJ10_fixAfterDeletion 201 = .ok (.aload_n 2, 1) := dk_44 (dk_at dksJ10_fixAfterDeletion_8 11 rfl rfl)
theorem dJ10_fixAfterDeletion_202 : decode cJ10_fixAfterDeletion 202 = .ok (.iconst 1, 1) := dk_4 (dk_at dksJ10_fixAfterDeletion_8 12 rfl rfl)
theorem dJ10_fixAfterDeletion_203 : decode cJ10_fixAfterDeletion 203 = .ok (.invokestatic 307, 3) := dk_184 1 51 (dk_at dksJ10_fixAfterDeletion_8 13 rfl rfl)
theorem dJ10_fixAfterDeletion_206 : decode cJ10_fixAfterDeletion 206 = .ok (.aload_n 1, 1) := dk_43 (dk_at dksJ10_fixAfterDeletion_8 16 rfl rfl)
theorem dJ10_fixAfterDeletion_207 : decode cJ10_fixAfterDeletion 207 = .ok (.invokestatic 294, 3) := dk_184 1 38 (dk_at dksJ10_fixAfterDeletion_8 17 rfl rfl)
theorem dJ10_fixAfterDeletion_210 : decode cJ10_fixAfterDeletion 210 = .ok (.iconst 0, 1) := dk_3 (dk_at dksJ10_fixAfterDeletion_8 20 rfl rfl)
theorem dJ10_fixAfterDeletion_211 : decode cJ10_fixAfterDeletion 211 = .ok (.invokestatic 307, 3) := dk_184 1 51 (dk_at dksJ10_fixAfterDeletion_8 21 rfl rfl)
theorem dJ10_fixAfterDeletion_214 : decode cJ10_fixAfterDeletion 214 = .ok (.aload_n 0, 1) := dk_42 (dk_at dksJ10_fixAfterDeletion_9 0 rfl rfl)
theorem dJ10_fixAfterDeletion_215 : decode cJ10_fixAfterDeletion 215 = .ok (.aload_n 1, 1) := dk_43 (dk_at dksJ10_fixAfterDeletion_9 1 rfl rfl)
theorem dJ10_fixAfterDeletion_216 : decode cJ10_fixAfterDeletion 216 = .ok (.invokestatic 294, 3) := dk_184 1 38 (dk_at dksJ10_fixAfterDeletion_9 2 rfl rfl)
theorem dJ10_fixAfterDeletion_219 : decode cJ10_fixAfterDeletion 219 = .ok (.invokevirtual 314, 3) := dk_182 1 58 (dk_at dksJ10_fixAfterDeletion_9 5 rfl rfl)
theorem dJ10_fixAfterDeletion_222 : decode cJ10_fixAfterDeletion 222 = .ok (.aload_n 1, 1) := dk_43 (dk_at dksJ10_fixAfterDeletion_9 8 rfl rfl)
theorem dJ10_fixAfterDeletion_223 : decode cJ10_fixAfterDeletion 223 = .ok (.invokestatic 294, 3) := dk_184 1 38 (dk_at dksJ10_fixAfterDeletion_9 9 rfl rfl)
theorem dJ10_fixAfterDeletion_226 : decode cJ10_fixAfterDeletion 226 = .ok (.invokestatic 297, 3) := dk_184 1 41 (dk_at dksJ10_fixAfterDeletion_9 12 rfl rfl)
theorem dJ10_fixAfterDeletion_229 : decode cJ10_fixAfterDeletion 229 = .ok (.astore_n 2, 1) := dk_77 (dk_at dksJ10_fixAfterDeletion_9 15 rfl rfl)
theorem dJ10_fixAfterDeletion_230 : decode cJ10_fixAfterDeletion 230 = .ok (.aload_n 2, 1) := dk_44 (dk_at dksJ10_fixAfterDeletion_9 16 rfl rfl)
theorem dJ10_fixAfterDeletion_231 : decode cJ10_fixAfterDeletion 231 = .ok (.invokestatic 300, 3) := dk_184 1 44 (dk_at dksJ10_fixAfterDeletion_9 17 rfl rfl)
theorem dJ10_fixAfterDeletion_234 : decode cJ10_fixAfterDeletion 234 = .ok (.invokestatic 303, 3) := dk_184 1 47 (dk_at dksJ10_fixAfterDeletion_9 20 rfl rfl)
theorem dJ10_fixAfterDeletion_237 : decode cJ10_fixAfterDeletion 237 = .ok (.iconst 1, 1) := dk_4 (dk_at dksJ10_fixAfterDeletion_9 23 rfl rfl)
theorem dJ10_fixAfterDeletion_238 : decode cJ10_fixAfterDeletion 238 = .ok (.if_icmp .ne 27, 3) := dk_160 0 27 (dk_at dksJ10_fixAfterDeletion_10 0 rfl rfl)
theorem dJ10_fixAfterDeletion_241 : decode cJ10_fixAfterDeletion 241 = .ok (.aload_n 2, 1) := dk_44 (dk_at dksJ10_fixAfterDeletion_10 3 rfl rfl)
theorem dJ10_fixAfterDeletion_242 : decode cJ10_fixAfterDeletion 242 = .ok (.invokestatic 297, 3) := dk_184 1 41 (dk_at dksJ10_fixAfterDeletion_10 4 rfl rfl)
theorem dJ10_fixAfterDeletion_245 : decode cJ10_fixAfterDeletion 245 = .ok (.invokestatic 303, 3) := dk_184 1 47 (dk_at dksJ10_fixAfterDeletion_10 7 rfl rfl)
theorem dJ10_fixAfterDeletion_248 : decode cJ10_fixAfterDeletion 248 = .ok (.iconst 1, 1) := dk_4 (dk_at dksJ10_fixAfterDeletion_10 10 rfl rfl)
theorem dJ10_fixAfterDeletion_249 : decode cJ10_fixAfterDeletion 249 = .ok (.if_icmp .ne 16, 3) := dk_160 0 16 (dk_at dksJ10_fixAfterDeletion_10 11 rfl rfl)
theorem dJ10_fixAfterDeletion_252 : decode cJ10_fixAfterDeletion 252 = .ok (.aload_n 2, 1) := dk_44 (dk_at dksJ10_fixAfterDeletion_10 14 rfl rfl)
theorem dJ10_fixAfterDeletion_253 : decode cJ10_fixAfterDeletion 253 = .ok (.iconst 0, 1) := dk_3 (dk_at dksJ10_fixAfterDeletion_10 15 rfl rfl)
theorem dJ10_fixAfterDeletion_254 : decode cJ10_fixAfterDeletion 254 = .ok (.invokestatic 307, 3) := dk_184 1 51 (dk_at dksJ10_fixAfterDeletion_10 16 rfl rfl)
theorem dJ10_fixAfterDeletion_257 : decode cJ10_fixAfterDeletion 257 = .ok (.aload_n 1, 1) := dk_43 (dk_at dksJ10_fixAfterDeletion_10 19 rfl rfl)
theorem dJ10_fixAfterDeletion_258 : decode cJ10_fixAfterDeletion 258 = .ok (.invokestatic 294, 3) := dk_184 1 38 (dk_at dksJ10_fixAfterDeletion_10 20 rfl rfl)
theorem dJ10_fixAfterDeletion_261 : decode cJ10_fixAfterDeletion 261 = .ok (.astore_n 1, 1) := dk_76 (dk_at dksJ10_fixAfterDeletion_10 23 rfl rfl)
theorem dJ10_fixAfterDeletion_262 : decode cJ10_fixAfterDeletion 262 = .ok (.goto 80, 3) := dk_167 0 80 (dk_at dksJ10_fixAfterDeletion_11 0 rfl rfl)
theorem dJ10_fixAfterDeletion_265 : decode cJ10_fixAfterDeletion 265 = .ok (.aload_n 2, 1) := dk_44 (dk_at dksJ10_fixAfterDeletion_11 3 rfl rfl)
theorem dJ10_fixAfterDeletion_266 : decode cJ10_fixAfterDeletion 266 = .ok (.invokestatic 297, 3) := dk_184 1 41 (dk_at dksJ10_fixAfterDeletion_11 4 rfl rfl)
theorem dJ10_fixAfterDeletion_269 : decode cJ10_fixAfterDeletion 269 = .ok (.invokestatic 303, 3) := dk_184 1 47 (dk_at dksJ10_fixAfterDeletion_11 7 rfl rfl)
theorem dJ10_fixAfterDeletion_272 : decode cJ10_fixAfterDeletion 272 = .ok (.iconst 1, 1) := dk_4 (dk_at dksJ10_fixAfterDeletion_11 10 rfl rfl)
theorem dJ10_fixAfterDeletion_273 : decode cJ10_fixAfterDeletion 273 = .ok (.if_icmp .ne 29, 3) := dk_160 0 29 (dk_at dksJ10_fixAfterDeletion_11 11 rfl rfl)
theorem dJ10_fixAfterDeletion_276 : decode cJ10_fixAfterDeletion 276 = .ok (.aload_n 2, 1) := dk_44 (dk_at dksJ10_fixAfterDeletion_11 14 rfl rfl)
theorem dJ10_fixAfterDeletion_277 : decode cJ10_fixAfterDeletion 277 = .ok (.invokestatic 300, 3) := dk_184 1 44 (dk_at dksJ10_fixAfterDeletion_11 15 rfl rfl)
theorem dJ10_fixAfterDeletion_280 : decode cJ10_fixAfterDeletion 280 = .ok (.iconst 1, 1) := dk_4 (dk_at dksJ10_fixAfterDeletion_11 18 rfl rfl)
theorem dJ10_fixAfterDeletion_281 : decode cJ10_fixAfterDeletion 281 = .ok (.invokestatic 307, 3) := dk_184 1 51 (dk_at dksJ10_fixAfterDeletion_11 19 rfl rfl)
theorem dJ10_fixAfterDeletion_284 : decode cJ10_fixAfterDeletion 284 = .ok (.aload_n 2, 1) := dk_44 (dk_at dksJ10_fixAfterDeletion_11 22 rfl rfl)
theorem dJ10_fixAfterDeletion_285 : decode cJ10_fixAfterDeletion 285 = .ok (.iconst 0, 1) := dk_3 (dk_at dksJ10_fixAfterDeletion_11 23 rfl rfl)
theorem dJ10_fixAfterDeletion_286 : decode cJ10_fixAfterDeletion 286 = .ok (.invokestatic 307, 3) := dk_184 1 51 (dk_at dksJ10_fixAfterDeletion_12 0 rfl rfl)
theorem dJ10_fixAfterDeletion_289 : decode cJ10_fixAfterDeletion 289 = .ok (.aload_n 0, 1) := dk_42 (dk_at dksJ10_fixAfterDeletion_12 3 rfl rfl)
theorem dJ10_fixAfterDeletion_290 : decode cJ10_fixAfterDeletion 290 = .ok (.aload_n 2, 1) := dk_44 (dk_at dksJ10_fixAfterDeletion_12 4 rfl rfl)
theorem dJ10_fixAfterDeletion_291 : decode cJ10_fixAfterDeletion 291 = .ok (.invokevirtual 311, 3) := dk_182 1 55 (dk_at dksJ10_fixAfterDeletion_12 5 rfl rfl)
theorem dJ10_fixAfterDeletion_294 : decode cJ10_fixAfterDeletion 294 = .ok (.aload_n 1, 1) := dk_43 (dk_at dksJ10_fixAfterDeletion_12 8 rfl rfl)
theorem dJ10_fixAfterDeletion_295 : decode cJ10_fixAfterDeletion 295 = .ok (.invokestatic 294, 3) := dk_184 1 38 (dk_at dksJ10_fixAfterDeletion_12 9 rfl rfl)
theorem dJ10_fixAfterDeletion_298 : decode cJ10_fixAfterDeletion 298 = .ok (.invokestatic 297, 3) := dk_184 1 41 (dk_at dksJ10_fixAfterDeletion_12 12 rfl rfl)
theorem dJ10_fixAfterDeletion_301 : decode cJ10_fixAfterDeletion 301 = .ok (.astore_n 2, 1) := dk_77 (dk_at dksJ10_fixAfterDeletion_12 15 rfl rfl)
theorem dJ10_fixAfterDeletion_302 : decode cJ10_fixAfterDeletion 302 = .ok (.aload_n 2, 1) := dk_44 (dk_at dksJ10_fixAfterDeletion_12 16 rfl rfl)
theorem dJ10_fixAfterDeletion_303 : decode cJ10_fixAfterDeletion 303 = .ok (.aload_n 1, 1) := dk_43 (dk_at dksJ10_fixAfterDeletion_12 17 rfl rfl)
theorem dJ10_fixAfterDeletion_304 : decode cJ10_fixAfterDeletion 304 = .ok (.invokestatic 294, 3) := dk_184 1 38 (dk_at dksJ10_fixAfterDeletion_12 18 rfl rfl)
theorem dJ10_fixAfterDeletion_307 : decode cJ10_fixAfterDeletion 307 = .ok (.invokestatic 303, 3) := dk_184 1 47 (dk_at dksJ10_fixAfterDeletion_12 21 rfl rfl)
theorem dJ10_fixAfterDeletion_310 : decode cJ10_fixAfterDeletion 310 = .ok (.invokestatic 307, 3) := dk_184 1 51 (dk_at dksJ10_fixAfterDeletion_13 0 rfl rfl)
theorem dJ10_fixAfterDeletion_313 : decode cJ10_fixAfterDeletion 313 = .ok (.aload_n 1, 1) := dk_43 (dk_at dksJ10_fixAfterDeletion_13 3 rfl rfl)
theorem dJ10_fixAfterDeletion_314 : decode cJ10_fixAfterDeletion 314 = .ok (.invokestatic 294, 3) := dk_184 1 38 (dk_at dksJ10_fixAfterDeletion_13 4 rfl rfl)
theorem dJ10_fixAfterDeletion_317 : decode cJ10_fixAfterDeletion 317 = .ok (.iconst 1, 1) := dk_4 (dk_at dksJ10_fixAfterDeletion_13 7 rfl rfl)
theorem dJ10_fixAfterDeletion_318 : decode cJ10_fixAfterDeletion 318 = .ok (.invokestatic 307, 3) := dk_184 1 51 (dk_at dksJ10_fixAfterDeletion_13 8 rfl rfl)
theorem dJ10_fixAfterDeletion_321 : decode cJ10_fixAfterDeletion 321 = .ok (.aload_n 2, 1) := dk_44 (dk_at dksJ10_fixAfterDeletion_13 11 rfl rfl)
theorem dJ10_fixAfterDeletion_322 : decode cJ10_fixAfterDeletion 322 = .ok (.invokestatic 297, 3) := dk_184 1 41 (dk_at dksJ10_fixAfterDeletion_13 12 rfl rfl)
theorem dJ10_fixAfterDeletion_325 : decode cJ10_fixAfterDeletion 325 = .ok (.iconst 1, 1) := dk_4 (dk_at dksJ10_fixAfterDeletion_13 15 rfl rfl)
theorem dJ10_fixAfterDeletion_326 : decode cJ10_fixAfterDeletion 326 = .ok (.invokestatic 307, 3) := dk_184 1 51 (dk_at dksJ10_fixAfterDeletion_13 16 rfl rfl)
theorem dJ10_fixAfterDeletion_329 : decode cJ10_fixAfterDeletion 329 = .ok (.aload_n 0, 1) := dk_42 (dk_at dksJ10_fixAfterDeletion_13 19 rfl rfl)
theorem dJ10_fixAfterDeletion_330 : decode cJ10_fixAfterDeletion 330 = .ok (.aload_n 1, 1) := dk_43 (dk_at dksJ10_fixAfterDeletion_13 20 rfl rfl)
theorem dJ10_fixAfterDeletion_331 : decode cJ10_fixAfterDeletion 331 = .ok (.invokestatic 294, 3) := dk_184 1 38 (dk_at dksJ10_fixAfterDeletion_13 21 rfl rfl)
theorem dJ10_fixAfterDeletion_334 : decode cJ10_fixAfterDeletion 334 = .ok (.invokevirtual 314, 3) := dk_182 1 58 (dk_at dksJ10_fixAfterDeletion_14 0 rfl rfl)
theorem dJ10_fixAfterDeletion_337 : decode cJ10_fixAfterDeletion 337 = .ok (.aload_n 0, 1) := dk_42 (dk_at dksJ10_fixAfterDeletion_14 3 rfl rfl)
theorem dJ10_fixAfterDeletion_338 : decode cJ10_fixAfterDeletion 338 = .ok (.getfield 101, 3) := dk_180 0 101 (dk_at dksJ10_fixAfterDeletion_14 4 rfl rfl)
theorem dJ10_fixAfterDeletion_341 : decode cJ10_fixAfterDeletion 341 = .ok (.astore_n 1, 1) := dk_76 (dk_at dksJ10_fixAfterDeletion_14 7 rfl rfl)
theorem dJ10_fixAfterDeletion_342 : decode cJ10_fixAfterDeletion 342 = .ok (.goto (-342), 3) := dk_167 254 170 (dk_at dksJ10_fixAfterDeletion_14 8 rfl rfl)
theorem dJ10_fixAfterDeletion_345 : decode cJ10_fixAfterDeletion 345 = .ok (.aload_n 1, 1) := dk_43 (dk_at dksJ10_fixAfterDeletion_14 11 rfl rfl)
theorem dJ10_fixAfterDeletion_346 : decode cJ10_fixAfterDeletion 346 = .ok (.iconst 1, 1) := dk_4 (dk_at dksJ10_fixAfterDeletion_14 12 rfl rfl)
theorem dJ10_fixAfterDeletion_347 : decode cJ10_fixAfterDeletion 347 = .ok (.invokestatic 307, 3) := dk_184 1 51 (dk_at dksJ10_fixAfterDeletion_14 13 rfl rfl)
theorem dJ10_fixAfterDeletion_350 : decode cJ10_fixAfterDeletion 350 = .ok (.return_, 1) := dk_177 (dk_at dksJ10_fixAfterDeletion_14 16 rfl rfl)
abbrev cJ10_putAll : ByteArray := prog_87_method_14_code
def yJ10_putAll : MethodName := ⟨RJ10, "putAll", "(Ljava/util/Map;)V"⟩
def dkwJ10_putAll_3 : List UInt8 := [182, 0, 42, 167, 0, 4, 78, 177, 42, 43, 183, 0, 91, 177]
abbrev dktJ10_putAll_3 : List UInt8 := dkwJ10_putAll_3 ++ []
def dkwJ10_putAll_2 : List UInt8 := [180, 0, 13, 4, 96, 181, 0, 13, 42, 28, 43, 185, 0, 90, 1, 0, 185, 0, 36, 1, 0, 1, 1]
abbrev dktJ10_putAll_2 : List UInt8 := dkwJ10_putAll_2 ++ dktJ10_putAll_3
def dkwJ10_putAll_1 : List UInt8 := [153, 0, 55, 42, 180, 0, 16, 43, 192, 0, 25, 185, 0, 24, 1, 0, 184, 0, 85, 153, 0, 36, 42, 89]
abbrev dktJ10_putAll_1 : List UInt8 := dkwJ10_putAll_1 ++ dktJ10_putAll_2
def dkwJ10_putAll_0 : List UInt8 := [43, 185, 0, 82, 1, 0, 61, 42, 180, 0, 7, 154, 0, 66, 28, 153, 0, 62, 43, 193, 0, 25]
abbrev dktJ10_putAll_0 : List UInt8 := dkwJ10_putAll_0 ++ dktJ10_putAll_1
theorem dksJ10_putAll_0 : cJ10_putAll.data.toList.drop 0 = dktJ10_putAll_0 := by decide +kernel
theorem dksJ10_putAll_1 : cJ10_putAll.data.toList.drop 22 = dktJ10_putAll_1 := dk_seg dksJ10_putAll_0 22 rfl rfl
theorem dksJ10_putAll_2 : cJ10_putAll.data.toList.drop 46 = dktJ10_putAll_2 := dk_seg dksJ10_putAll_1 24 rfl rfl
theorem dksJ10_putAll_3 : cJ10_putAll.data.toList.drop 69 = dktJ10_putAll_3 := dk_seg dksJ10_putAll_2 23 rfl rfl
theorem dJ10_putAll_0 : decode cJ10_putAll 0 = .ok (.aload_n 1, 1) := dk_43 (dk_at dksJ10_putAll_0 0 rfl rfl)
theorem dJ10_putAll_1 : decode cJ10_putAll 1 = .ok (.invokeinterface 82 1, 5) := by decide +kernel
theorem dJ10_putAll_6 : decode cJ10_putAll 6 = .ok (.istore_n 2, 1) := dk_61 (dk_at dksJ10_putAll_0 6 rfl rfl)
theorem dJ10_putAll_7 : decode cJ10_putAll 7 = .ok (.aload_n 0, 1) := dk_42 (dk_at dksJ10_putAll_0 7 rfl rfl)
theorem dJ10_putAll_8 : decode cJ10_putAll 8 = .ok (.getfield 7, 3) := dk_180 0 7 (dk_at dksJ10_putAll_0 8 rfl rfl)
theorem dJ10_putAll_11 : decode cJ10_putAll 11 = .ok (.ifCond .ne 66, 3) := dk_154 0 66 (dk_at dksJ10_putAll_0 11 rfl rfl)
theorem dJ10_putAll_14 : decode cJ10_putAll 14 = .ok (.iload_n 2, 1) := dk_28 (dk_at dksJ10_putAll_0 14 rfl rfl)
theorem dJ10_putAll_15 : decode cJ10_putAll 15 = .ok (.ifCond .eq 62, 3) := dk_153 0 62 (dk_at dksJ10_putAll_0 15 rfl rfl)
theorem dJ10_putAll_18 : decode cJ10_putAll 18 = .ok (.aload_n 1, 1) := dk_43 (dk_at dksJ10_putAll_0 18 rfl rfl)
theorem dJ10_putAll_19 : decode cJ10_putAll 19 = .ok (.instanceof 25, 3) := dk_193 0 25 (dk_at dksJ10_putAll_0 19 rfl rfl)
theorem dJ10_putAll_22 : decode cJ10_putAll 22 = .ok (.ifCond .eq 55, 3) := dk_153 0 55 (dk_at dksJ10_putAll_1 0 rfl rfl)
theorem dJ10_putAll_25 : decode cJ10_putAll 25 = .ok (.aload_n 0, 1) := dk_42 (dk_at dksJ10_putAll_1 3 rfl rfl)
theorem dJ10_putAll_26 : decode cJ10_putAll 26 = .ok (.getfield 16, 3) := dk_180 0 16 (dk_at dksJ10_putAll_1 4 rfl rfl)
theorem dJ10_putAll_29 : decode cJ10_putAll 29 = .ok (.aload_n 1, 1) := dk_43 (dk_at dksJ10_putAll_1 7 rfl rfl)
theorem dJ10_putAll_30 : decode cJ10_putAll 30 = .ok (.checkcast 25, 3) := dk_192 0 25 (dk_at dksJ10_putAll_1 8 rfl rfl)
theorem dJ10_putAll_33 : decode cJ10_putAll 33 = .ok (.invokeinterface 24 1, 5) := by decide +kernel
theorem dJ10_putAll_38 : decode cJ10_putAll 38 = .ok (.invokestatic 85, 3) := dk_184 0 85 (dk_at dksJ10_putAll_1 16 rfl rfl)
theorem dJ10_putAll_41 : decode cJ10_putAll 41 = .ok (.ifCond .eq 36, 3) := dk_153 0 36 (dk_at dksJ10_putAll_1 19 rfl rfl)
theorem dJ10_putAll_44 : decode cJ10_putAll 44 = .ok (.aload_n 0, 1) := dk_42 (dk_at dksJ10_putAll_1 22 rfl rfl)
theorem dJ10_putAll_45 : decode cJ10_putAll 45 = .ok (.dup, 1) := dk_89 (dk_at dksJ10_putAll_1 23 rfl rfl)
theorem dJ10_putAll_46 : decode cJ10_putAll 46 = .ok (.getfield 13, 3) := dk_180 0 13 (dk_at dksJ10_putAll_2 0 rfl rfl)
theorem dJ10_putAll_49 : decode cJ10_putAll 49 = .ok (.iconst 1, 1) := dk_4 (dk_at dksJ10_putAll_2 3 rfl rfl)
theorem dJ10_putAll_50 : decode cJ10_putAll 50 = .ok (.iadd, 1) := dk_96 (dk_at dksJ10_putAll_2 4 rfl rfl)
theorem dJ10_putAll_51 : decode cJ10_putAll 51 = .ok (.putfield 13, 3) := dk_181 0 13 (dk_at dksJ10_putAll_2 5 rfl rfl)
theorem dJ10_putAll_54 : decode cJ10_putAll 54 = .ok (.aload_n 0, 1) := dk_42 (dk_at dksJ10_putAll_2 8 rfl rfl)
theorem dJ10_putAll_55 : decode cJ10_putAll 55 = .ok (.iload_n 2, 1) := dk_28 (dk_at dksJ10_putAll_2 9 rfl rfl)
theorem dJ10_putAll_56 : decode cJ10_putAll 56 = .ok (.aload_n 1, 1) := dk_43 (dk_at dksJ10_putAll_2 10 rfl rfl)
theorem dJ10_putAll_57 : decode cJ10_putAll 57 = .ok (.invokeinterface 90 1, 5) := by decide +kernel
theorem dJ10_putAll_62 : decode cJ10_putAll 62 = .ok (.invokeinterface 36 1, 5) := by decide +kernel
theorem dJ10_putAll_67 : decode cJ10_putAll 67 = .ok (.aconst_null, 1) := dk_1 (dk_at dksJ10_putAll_2 21 rfl rfl)
theorem dJ10_putAll_68 : decode cJ10_putAll 68 = .ok (.aconst_null, 1) := dk_1 (dk_at dksJ10_putAll_2 22 rfl rfl)
theorem dJ10_putAll_69 : decode cJ10_putAll 69 = .ok (.invokevirtual 42, 3) := dk_182 0 42 (dk_at dksJ10_putAll_3 0 rfl rfl)
theorem dJ10_putAll_72 : decode cJ10_putAll 72 = .ok (.goto 4, 3) := dk_167 0 4 (dk_at dksJ10_putAll_3 3 rfl rfl)
theorem dJ10_putAll_75 : decode cJ10_putAll 75 = .ok (.astore_n 3, 1) := dk_78 (dk_at dksJ10_putAll_3 6 rfl rfl)
theorem dJ10_putAll_76 : decode cJ10_putAll 76 = .ok (.return_, 1) := dk_177 (dk_at dksJ10_putAll_3 7 rfl rfl)
theorem dJ10_putAll_77 : decode cJ10_putAll 77 = .ok (.aload_n 0, 1) := dk_42 (dk_at dksJ10_putAll_3 8 rfl rfl)
theorem dJ10_putAll_78 : decode cJ10_putAll 78 = .ok (.aload_n 1, 1) := dk_43 (dk_at dksJ10_putAll_3 9 rfl rfl)
theorem dJ10_putAll_79 : decode cJ10_putAll 79 = .ok (.invokespecial 91, 3) := dk_183 0 91 (dk_at dksJ10_putAll_3 10 rfl rfl)
theorem dJ10_putAll_82 : decode cJ10_putAll 82 = .ok (.return_, 1) := dk_177 (dk_at dksJ10_putAll_3 13 rfl rfl)
abbrev cJ10_size : ByteArray := prog_87_method_5_code
def yJ10_size : MethodName := ⟨RJ10, "size", "()I"⟩
theorem dJ10_size_0 : decode cJ10_size 0 = .ok (.aload_n 0, 1) := by decide +kernel
theorem dJ10_size_1 : decode cJ10_size 1 = .ok (.getfield 7, 3) := by decide +kernel
theorem dJ10_size_4 : decode cJ10_size 4 = .ok (.ireturn, 1) := by decide +kernel
abbrev cJ10_comparator : ByteArray := prog_87_method_9_code
def yJ10_comparator : MethodName := ⟨RJ10, "comparator", "()Ljava/util/Comparator;"⟩
theorem dJ10_comparator_0 : decode cJ10_comparator 0 = .ok (.aload_n 0, 1) := by decide +kernel
theorem dJ10_comparator_1 : decode cJ10_comparator 1 = .ok (.getfield 16, 3) := by decide +kernel
theorem dJ10_comparator_4 : decode cJ10_comparator 4 = .ok (.areturn, 1) := by decide +kernel
abbrev cJ10_entrySet : ByteArray := prog_87_method_53_code
def yJ10_entrySet : MethodName := ⟨RJ10, "entrySet", "()Ljava/util/Set;"⟩
def dkwJ10_entrySet_1 : List UInt8 := [181, 0, 188, 176]
abbrev dktJ10_entrySet_1 : List UInt8 := dkwJ10_entrySet_1 ++ []
def dkwJ10_entrySet_0 : List UInt8 := [42, 180, 0, 188, 76, 43, 198, 0, 7, 43, 167, 0, 16, 42, 187, 0, 242, 89, 42, 183, 0, 244, 90]
abbrev dktJ10_entrySet_0 : List UInt8 := dkwJ10_entrySet_0 ++ dktJ10_entrySet_1
theorem dksJ10_entrySet_0 : cJ10_entrySet.data.toList.drop 0 = dktJ10_entrySet_0 := by decide +kernel
theorem dksJ10_entrySet_1 : cJ10_entrySet.data.toList.drop 23 = dktJ10_entrySet_1 := dk_seg dksJ10_entrySet_0 23 rfl rfl
theorem dJ10_entrySet_0 : decode cJ10_entrySet 0 = .ok (.aload_n 0, 1) := dk_42 (dk_at dksJ10_entrySet_0 0 rfl rfl)
theorem dJ10_entrySet_1 : decode cJ10_entrySet 1 = .ok (.getfield 188, 3) := dk_180 0 188 (dk_at dksJ10_entrySet_0 1 rfl rfl)
theorem dJ10_entrySet_4 : decode cJ10_entrySet 4 = .ok (.astore_n 1, 1) := dk_76 (dk_at dksJ10_entrySet_0 4 rfl rfl)
theorem dJ10_entrySet_5 : decode cJ10_entrySet 5 = .ok (.aload_n 1, 1) := dk_43 (dk_at dksJ10_entrySet_0 5 rfl rfl)
theorem dJ10_entrySet_6 : decode cJ10_entrySet 6 = .ok (.ifnull 7, 3) := dk_198 0 7 (dk_at dksJ10_entrySet_0 6 rfl rfl)
theorem dJ10_entrySet_9 : decode cJ10_entrySet 9 = .ok (.aload_n 1, 1) := dk_43 (dk_at dksJ10_entrySet_0 9 rfl rfl)
theorem dJ10_entrySet_10 : decode cJ10_entrySet 10 = .ok (.goto 16, 3) := dk_167 0 16 (dk_at dksJ10_entrySet_0 10 rfl rfl)
theorem dJ10_entrySet_13 : decode cJ10_entrySet 13 = .ok (.aload_n 0, 1) := dk_42 (dk_at dksJ10_entrySet_0 13 rfl rfl)
theorem dJ10_entrySet_14 : decode cJ10_entrySet 14 = .ok (.new 242, 3) := dk_187 0 242 (dk_at dksJ10_entrySet_0 14 rfl rfl)
theorem dJ10_entrySet_17 : decode cJ10_entrySet 17 = .ok (.dup, 1) := dk_89 (dk_at dksJ10_entrySet_0 17 rfl rfl)
theorem dJ10_entrySet_18 : decode cJ10_entrySet 18 = .ok (.aload_n 0, 1) := dk_42 (dk_at dksJ10_entrySet_0 18 rfl rfl)
theorem dJ10_entrySet_19 : decode cJ10_entrySet 19 = .ok (.invokespecial 244, 3) := dk_183 0 244 (dk_at dksJ10_entrySet_0 19 rfl rfl)
theorem dJ10_entrySet_22 : decode cJ10_entrySet 22 = .ok (.dup_x1, 1) := dk_90 (dk_at dksJ10_entrySet_0 22 rfl rfl)
theorem dJ10_entrySet_23 : decode cJ10_entrySet 23 = .ok (.putfield 188, 3) := dk_181 0 188 (dk_at dksJ10_entrySet_1 0 rfl rfl)
theorem dJ10_entrySet_26 : decode cJ10_entrySet 26 = .ok (.areturn, 1) := dk_176 (dk_at dksJ10_entrySet_1 3 rfl rfl)
abbrev cJ10_buildFromSorted : ByteArray := prog_87_method_90_code
def yJ10_buildFromSorted : MethodName := ⟨RJ10, "buildFromSorted", "(ILjava/util/Iterator;Ljava/io/ObjectInputStream;Ljava/lang/Object;)V"⟩
def dkwJ10_buildFromSorted_1 : List UInt8 := [181, 0, 101, 177]
abbrev dktJ10_buildFromSorted_1 : List UInt8 := dkwJ10_buildFromSorted_1 ++ []
def dkwJ10_buildFromSorted_0 : List UInt8 := [42, 27, 181, 0, 7, 42, 42, 3, 3, 27, 4, 100, 27, 184, 1, 106, 44, 45, 25, 4, 182, 1, 110]
abbrev dktJ10_buildFromSorted_0 : List UInt8 := dkwJ10_buildFromSorted_0 ++ dktJ10_buildFromSorted_1
theorem dksJ10_buildFromSorted_0 : cJ10_buildFromSorted.data.toList.drop 0 = dktJ10_buildFromSorted_0 := by decide +kernel
theorem dksJ10_buildFromSorted_1 : cJ10_buildFromSorted.data.toList.drop 23 = dktJ10_buildFromSorted_1 := dk_seg dksJ10_buildFromSorted_0 23 rfl rfl
theorem dJ10_buildFromSorted_0 : decode cJ10_buildFromSorted 0 = .ok (.aload_n 0, 1) := dk_42 (dk_at dksJ10_buildFromSorted_0 0 rfl rfl)
theorem dJ10_buildFromSorted_1 : decode cJ10_buildFromSorted 1 = .ok (.iload_n 1, 1) := dk_27 (dk_at dksJ10_buildFromSorted_0 1 rfl rfl)
theorem dJ10_buildFromSorted_2 : decode cJ10_buildFromSorted 2 = .ok (.putfield 7, 3) := dk_181 0 7 (dk_at dksJ10_buildFromSorted_0 2 rfl rfl)
theorem dJ10_buildFromSorted_5 : decode cJ10_buildFromSorted 5 = .ok (.aload_n 0, 1) := dk_42 (dk_at dksJ10_buildFromSorted_0 5 rfl rfl)
theorem dJ10_buildFromSorted_6 : decode cJ10_buildFromSorted 6 = .ok (.aload_n 0, 1) := dk_42 (dk_at dksJ10_buildFromSorted_0 6 rfl rfl)
theorem dJ10_buildFromSorted_7 : decode cJ10_buildFromSorted 7 = .ok (.iconst 0, 1) := dk_3 (dk_at dksJ10_buildFromSorted_0 7 rfl rfl)
theorem dJ10_buildFromSorted_8 : decode cJ10_buildFromSorted 8 = .ok (.iconst 0, 1) := dk_3 (dk_at dksJ10_buildFromSorted_0 8 rfl rfl)
theorem dJ10_buildFromSorted_9 : decode cJ10_buildFromSorted 9 = .ok (.iload_n 1, 1) := dk_27 (dk_at dksJ10_buildFromSorted_0 9 rfl rfl)
theorem dJ10_buildFromSorted_10 : decode cJ10_buildFromSorted 10 = .ok (.iconst 1, 1) := dk_4 (dk_at dksJ10_buildFromSorted_0 10 rfl rfl)
theorem dJ10_buildFromSorted_11 : decode cJ10_buildFromSorted 11 = .ok (.isub, 1) := dk_100 (dk_at dksJ10_buildFromSorted_0 11 rfl rfl)
theorem dJ10_buildFromSorted_12 : decode cJ10_buildFromSorted 12 = .ok (.iload_n 1, 1) := dk_27 (dk_at dksJ10_buildFromSorted_0 12 rfl rfl)
theorem dJ10_buildFromSorted_13 : decode cJ10_buildFromSorted 13 = .ok (.invokestatic 362, 3) := dk_184 1 106 (dk_at dksJ10_buildFromSorted_0 13 rfl rfl)
theorem dJ10_buildFromSorted_16 : decode cJ10_buildFromSorted 16 = .ok (.aload_n 2, 1) := dk_44 (dk_at dksJ10_buildFromSorted_0 16 rfl rfl)
theorem dJ10_buildFromSorted_17 : decode cJ10_buildFromSorted 17 = .ok (.aload_n 3, 1) := dk_45 (dk_at dksJ10_buildFromSorted_0 17 rfl rfl)
theorem dJ10_buildFromSorted_18 : decode cJ10_buildFromSorted 18 = .ok (.aload 4, 2) := dk_25 4 (dk_at dksJ10_buildFromSorted_0 18 rfl rfl)
theorem dJ10_buildFromSorted_20 : decode cJ10_buildFromSorted 20 = .ok (.invokevirtual 366, 3) := dk_182 1 110 (dk_at dksJ10_buildFromSorted_0 20 rfl rfl)
theorem dJ10_buildFromSorted_23 : decode cJ10_buildFromSorted 23 = .ok (.putfield 101, 3) := dk_181 0 101 (dk_at dksJ10_buildFromSorted_1 0 rfl rfl)
theorem dJ10_buildFromSorted_26 : decode cJ10_buildFromSorted 26 = .ok (.return_, 1) := dk_177 (dk_at dksJ10_buildFromSorted_1 3 rfl rfl)
abbrev cJ10_computeRedLevel : ByteArray := prog_87_method_92_code
def yJ10_computeRedLevel : MethodName := ⟨RJ10, "computeRedLevel", "(I)I"⟩
def dkwJ10_computeRedLevel_0 : List UInt8 := [16, 31, 26, 4, 96, 184, 1, 116, 100, 172]
abbrev dktJ10_computeRedLevel_0 : List UInt8 := dkwJ10_computeRedLevel_0 ++ []
theorem dksJ10_computeRedLevel_0 : cJ10_computeRedLevel.data.toList.drop 0 = dktJ10_computeRedLevel_0 := by decide +kernel
theorem dJ10_computeRedLevel_0 : decode cJ10_computeRedLevel 0 = .ok (.bipush 31, 2) := dk_16 31 (dk_at dksJ10_computeRedLevel_0 0 rfl rfl)
theorem dJ10_computeRedLevel_2 : decode cJ10_computeRedLevel 2 = .ok (.iload_n 0, 1) := dk_26 (dk_at dksJ10_computeRedLevel_0 2 rfl rfl)
theorem dJ10_computeRedLevel_3 : decode cJ10_computeRedLevel 3 = .ok (.iconst 1, 1) := dk_4 (dk_at dksJ10_computeRedLevel_0 3 rfl rfl)
theorem dJ10_computeRedLevel_4 : decode cJ10_computeRedLevel 4 = .ok (.iadd, 1) := dk_96 (dk_at dksJ10_computeRedLevel_0 4 rfl rfl)
theorem dJ10_computeRedLevel_5 : decode cJ10_computeRedLevel 5 = .ok (.invokestatic 372, 3) := dk_184 1 116 (dk_at dksJ10_computeRedLevel_0 5 rfl rfl)
theorem dJ10_computeRedLevel_8 : decode cJ10_computeRedLevel 8 = .ok (.isub, 1) := dk_100 (dk_at dksJ10_computeRedLevel_0 8 rfl rfl)
theorem dJ10_computeRedLevel_9 : decode cJ10_computeRedLevel 9 = .ok (.ireturn, 1) := dk_172 (dk_at dksJ10_computeRedLevel_0 9 rfl rfl)
abbrev cJ10_buildFromSorted_2 : ByteArray := prog_87_method_91_code
def yJ10_buildFromSorted_2 : MethodName := ⟨RJ10, "buildFromSorted", "(IIIILjava/util/Iterator;Ljava/io/ObjectInputStream;Ljava/lang/Object;)Ljava/util/TreeMap$Entry;"⟩
def dkwJ10_buildFromSorted_2_9 : List UInt8 := [25, 13, 25, 12, 181, 0, 124, 25, 12, 176]
abbrev dktJ10_buildFromSorted_2_9 : List UInt8 := dkwJ10_buildFromSorted_2_9 ++ []
def dkwJ10_buildFromSorted_2_8 : List UInt8 := [4, 96, 29, 21, 4, 25, 5, 25, 6, 25, 7, 182, 1, 110, 58, 13, 25, 12, 25, 13, 181, 0, 114]
abbrev dktJ10_buildFromSorted_2_8 : List UInt8 := dkwJ10_buildFromSorted_2_8 ++ dktJ10_buildFromSorted_2_9
def dkwJ10_buildFromSorted_2_7 : List UInt8 := [25, 9, 181, 0, 111, 25, 9, 25, 12, 181, 0, 124, 21, 8, 29, 162, 0, 39, 42, 27, 4, 96, 21, 8]
abbrev dktJ10_buildFromSorted_2_7 : List UInt8 := dkwJ10_buildFromSorted_2_7 ++ dktJ10_buildFromSorted_2_8
def dkwJ10_buildFromSorted_2_6 : List UInt8 := [183, 0, 167, 58, 12, 27, 21, 4, 160, 0, 9, 25, 12, 3, 181, 1, 34, 25, 9, 198, 0, 17, 25, 12]
abbrev dktJ10_buildFromSorted_2_6 : List UInt8 := dkwJ10_buildFromSorted_2_6 ++ dktJ10_buildFromSorted_2_7
def dkwJ10_buildFromSorted_2_5 : List UInt8 := [198, 0, 8, 25, 7, 167, 0, 8, 25, 6, 182, 1, 113, 58, 11, 187, 0, 59, 89, 25, 10, 25, 11, 1]
abbrev dktJ10_buildFromSorted_2_5 : List UInt8 := dkwJ10_buildFromSorted_2_5 ++ dktJ10_buildFromSorted_2_6
def dkwJ10_buildFromSorted_2_4 : List UInt8 := [185, 1, 79, 1, 0, 58, 10, 25, 7, 58, 11, 167, 0, 27, 25, 6, 182, 1, 113, 58, 10, 25, 7]
abbrev dktJ10_buildFromSorted_2_4 : List UInt8 := dkwJ10_buildFromSorted_2_4 ++ dktJ10_buildFromSorted_2_5
def dkwJ10_buildFromSorted_2_3 : List UInt8 := [185, 1, 84, 1, 0, 58, 10, 25, 12, 185, 1, 91, 1, 0, 58, 11, 167, 0, 43, 25, 5]
abbrev dktJ10_buildFromSorted_2_3 : List UInt8 := dkwJ10_buildFromSorted_2_3 ++ dktJ10_buildFromSorted_2_4
def dkwJ10_buildFromSorted_2_2 : List UInt8 := [198, 0, 57, 25, 7, 199, 0, 36, 25, 5, 185, 1, 79, 1, 0, 192, 1, 82, 58, 12, 25, 12]
abbrev dktJ10_buildFromSorted_2_2 : List UInt8 := dkwJ10_buildFromSorted_2_2 ++ dktJ10_buildFromSorted_2_3
def dkwJ10_buildFromSorted_2_1 : List UInt8 := [27, 4, 96, 28, 21, 8, 4, 100, 21, 4, 25, 5, 25, 6, 25, 7, 182, 1, 110, 58, 9, 25, 5]
abbrev dktJ10_buildFromSorted_2_1 : List UInt8 := dkwJ10_buildFromSorted_2_1 ++ dktJ10_buildFromSorted_2_2
def dkwJ10_buildFromSorted_2_0 : List UInt8 := [29, 28, 162, 0, 5, 1, 176, 28, 29, 96, 4, 124, 54, 8, 1, 58, 9, 28, 21, 8, 162, 0, 25, 42]
abbrev dktJ10_buildFromSorted_2_0 : List UInt8 := dkwJ10_buildFromSorted_2_0 ++ dktJ10_buildFromSorted_2_1
theorem dksJ10_buildFromSorted_2_0 : cJ10_buildFromSorted_2.data.toList.drop 0 = dktJ10_buildFromSorted_2_0 := by decide +kernel
theorem dksJ10_buildFromSorted_2_1 : cJ10_buildFromSorted_2.data.toList.drop 24 = dktJ10_buildFromSorted_2_1 := dk_seg dksJ10_buildFromSorted_2_0 24 rfl rfl
theorem dksJ10_buildFromSorted_2_2 : cJ10_buildFromSorted_2.data.toList.drop 47 = dktJ10_buildFromSorted_2_2 := dk_seg dksJ10_buildFromSorted_2_1 23 rfl rfl
theorem dksJ10_buildFromSorted_2_3 : cJ10_buildFromSorted_2.data.toList.drop 69 = dktJ10_buildFromSorted_2_3 := dk_seg dksJ10_buildFromSorted_2_2 22 rfl rfl
theorem dksJ10_buildFromSorted_2_4 : cJ10_buildFromSorted_2.data.toList.drop 90 = dktJ10_buildFromSorted_2_4 := dk_seg dksJ10_buildFromSorted_2_3 21 rfl rfl
theorem dksJ10_buildFromSorted_2_5 : cJ10_buildFromSorted_2.data.toList.drop 113 = dktJ10_buildFromSorted_2_5 := dk_seg dksJ10_buildFromSorted_2_4 23 rfl rfl
theorem dksJ10_buildFromSorted_2_6 : cJ10_buildFromSorted_2.data.toList.drop 137 = dktJ10_buildFromSorted_2_6 := dk_seg dksJ10_buildFromSorted_2_5 24 rfl rfl
theorem dksJ10_buildFromSorted_2_7 : cJ10_buildFromSorted_2.data.toList.drop 161 = dktJ10_buildFromSorted_2_7 := dk_seg dksJ10_buildFromSorted_2_6 24 rfl rfl
theorem dksJ10_buildFromSorted_2_8 : cJ10_buildFromSorted_2.data.toList.drop 185 = dktJ10_buildFromSorted_2_8 := dk_seg dksJ10_buildFromSorted_2_7 24 rfl rfl
theorem dksJ10_buildFromSorted_2_9 : cJ10_buildFromSorted_2.data.toList.drop 208 = dktJ10_buildFromSorted_2_9 := dk_seg dksJ10_buildFromSorted_2_8 23 rfl rfl
theorem dJ10_buildFromSorted_2_0 : decode cJ10_buildFromSorted_2 0 = .ok (.iload_n 3, 1) := dk_29 (dk_at dksJ10_buildFromSorted_2_0 0 rfl rfl)
theorem dJ10_buildFromSorted_2_1 : decode cJ10_buildFromSorted_2 1 = .ok (.iload_n 2, 1) := dk_28 (dk_at dksJ10_buildFromSorted_2_0 1 rfl rfl)
theorem dJ10_buildFromSorted_2_2 : decode cJ10_buildFromSorted_2 2 = .ok (.if_icmp .ge 5, 3) := dk_162 0 5 (dk_at dksJ10_buildFromSorted_2_0 2 rfl rfl)
theorem dJ10_buildFromSorted_2_5 : decode cJ10_buildFromSorted_2 5 = .ok (.aconst_null, 1) := dk_1 (dk_at dksJ10_buildFromSorted_2_0 5 rfl rfl)
theorem dJ10_buildFromSorted_2_6 : decode cJ10_buildFromSorted_2 6 = .ok (.areturn, 1) := dk_176 (dk_at dksJ10_buildFromSorted_2_0 6 rfl rfl)
theorem dJ10_buildFromSorted_2_7 : decode cJ10_buildFromSorted_2 7 = .ok (.iload_n 2, 1) := dk_28 (dk_at dksJ10_buildFromSorted_2_0 7 rfl rfl)
theorem dJ10_buildFromSorted_2_8 : decode cJ10_buildFromSorted_2 8 = .ok (.iload_n 3, 1) := dk_29 (dk_at dksJ10_buildFromSorted_2_0 8 rfl rfl)
theorem dJ10_buildFromSorted_2_9 : decode cJ10_buildFromSorted_2 9 = .ok (.iadd, 1) := dk_96 (dk_at dksJ10_buildFromSorted_2_0 9 rfl rfl)
theorem dJ10_buildFromSorted_2_10 : decode cJ10_buildFromSorted_2 10 = .ok (.iconst 1, 1) := dk_4 (dk_at dksJ10_buildFromSorted_2_0 10 rfl rfl)
theorem dJ10_buildFromSorted_2_11 : decode cJ10_buildFromSorted_2 11 = .ok (.iushr, 1) := dk_124 (dk_at dksJ10_buildFromSorted_2_0 11 rfl rfl)
theorem dJ10_buildFromSorted_2_12 : decode cJ10_buildFromSorted_2 12 = .ok (.istore 8, 2) := dk_54 8 (dk_at dksJ10_buildFromSorted_2_0 12 rfl rfl)
theorem dJ10_buildFromSorted_2_14 : decode cJ10_buildFromSorted_2 14 = .ok (.aconst_null, 1) := dk_1 (dk_at dksJ10_buildFromSorted_2_0 14 rfl rfl)
theorem dJ10_buildFromSorted_2_15 : decode cJ10_buildFromSorted_2 15 = .ok (.astore 9, 2) := dk_58 9 (dk_at dksJ10_buildFromSorted_2_0 15 rfl rfl)
theorem dJ10_buildFromSorted_2_17 : decode cJ10_buildFromSorted_2 17 = .ok (.iload_n 2, 1) := dk_28 (dk_at dksJ10_buildFromSorted_2_0 17 rfl rfl)
theorem dJ10_buildFromSorted_2_18 : decode cJ10_buildFromSorted_2 18 = .ok (.iload 8, 2) := dk_21 8 (dk_at dksJ10_buildFromSorted_2_0 18 rfl rfl)
theorem dJ10_buildFromSorted_2_20 : decode cJ10_buildFromSorted_2 20 = .ok (.if_icmp .ge 25, 3) := dk_162 0 25 (dk_at dksJ10_buildFromSorted_2_0 20 rfl rfl)
theorem dJ10_buildFromSorted_2_23 : decode cJ10_buildFromSorted_2 23 = .ok (.aload_n 0, 1) := dk_42 (dk_at dksJ10_buildFromSorted_2_0 23 rfl rfl)
theorem dJ10_buildFromSorted_2_24 : decode cJ10_buildFromSorted_2 24 = .ok (.iload_n 1, 1) := dk_27 (dk_at dksJ10_buildFromSorted_2_1 0 rfl rfl)
theorem dJ10_buildFromSorted_2_25 : decode cJ10_buildFromSorted_2 25 = .ok (.iconst 1, 1) := dk_4 (dk_at dksJ10_buildFromSorted_2_1 1 rfl rfl)
theorem dJ10_buildFromSorted_2_26 : decode cJ10_buildFromSorted_2 26 = .ok (.iadd, 1) := dk_96 (dk_at dksJ10_buildFromSorted_2_1 2 rfl rfl)
theorem dJ10_buildFromSorted_2_27 : decode cJ10_buildFromSorted_2 27 = .ok (.iload_n 2, 1) := dk_28 (dk_at dksJ10_buildFromSorted_2_1 3 rfl rfl)
theorem dJ10_buildFromSorted_2_28 : decode cJ10_buildFromSorted_2 28 = .ok (.iload 8, 2) := dk_21 8 (dk_at dksJ10_buildFromSorted_2_1 4 rfl rfl)
theorem dJ10_buildFromSorted_2_30 : decode cJ10_buildFromSorted_2 30 = .ok (.iconst 1, 1) := dk_4 (dk_at dksJ10_buildFromSorted_2_1 6 rfl rfl)
theorem dJ10_buildFromSorted_2_31 : decode cJ10_buildFromSorted_2 31 = .ok (.isub, 1) := dk_100 (dk_at dksJ10_buildFromSorted_2_1 7 rfl rfl)
theorem dJ10_buildFromSorted_2_32 : decode cJ10_buildFromSorted_2 32 = .ok (.iload 4, 2) := dk_21 4 (dk_at dksJ10_buildFromSorted_2_1 8 rfl rfl)
theorem dJ10_buildFromSorted_2_34 : decode cJ10_buildFromSorted_2 34 = .ok (.aload 5, 2) := dk_25 5 (dk_at dksJ10_buildFromSorted_2_1 10 rfl rfl)
theorem dJ10_buildFromSorted_2_36 : decode cJ10_buildFromSorted_2 36 = .ok (.aload 6, 2) := dk_25 6 (dk_at dksJ10_buildFromSorted_2_1 12 rfl rfl)
theorem dJ10_buildFromSorted_2_38 : decode cJ10_buildFromSorted_2 38 = .ok (.aload 7, 2) := dk_25 7 (dk_at dksJ10_buildFromSorted_2_1 14 rfl rfl)
theorem dJ10_buildFromSorted_2_40 : decode cJ10_buildFromSorted_2 40 = .ok (.invokevirtual 366, 3) := dk_182 1 110 (dk_at dksJ10_buildFromSorted_2_1 16 rfl rfl)
theorem dJ10_buildFromSorted_2_43 : decode cJ10_buildFromSorted_2 43 = .ok (.astore 9, 2) := dk_58 9 (dk_at dksJ10_buildFromSorted_2_1 19 rfl rfl)
theorem dJ10_buildFromSorted_2_45 : decode cJ10_buildFromSorted_2 45 = .ok (.aload 5, 2) := dk_25 5 (dk_at dksJ10_buildFromSorted_2_1 21 rfl rfl)
theorem dJ10_buildFromSorted_2_47 : decode cJ10_buildFromSorted_2 47 = .ok (.ifnull 57, 3) := dk_198 0 57 (dk_at dksJ10_buildFromSorted_2_2 0 rfl rfl)
theorem dJ10_buildFromSorted_2_50 : decode cJ10_buildFromSorted_2 50 = .ok (.aload 7, 2) := dk_25 7 (dk_at dksJ10_buildFromSorted_2_2 3 rfl rfl)
theorem dJ10_buildFromSorted_2_52 : decode cJ10_buildFromSorted_2 52 = .ok (.ifnonnull 36, 3) := dk_199 0 36 (dk_at dksJ10_buildFromSorted_2_2 5 rfl rfl)
theorem dJ10_buildFromSorted_2_55 : decode cJ10_buildFromSorted_2 55 = .ok (.aload 5, 2) := dk_25 5 (dk_at dksJ10_buildFromSorted_2_2 8 rfl rfl)
theorem dJ10_buildFromSorted_2_57 : decode cJ10_buildFromSorted_2 57 = .ok (.invokeinterface 335 1, 5) := by decide +kernel
theorem dJ10_buildFromSorted_2_62 : decode cJ10_buildFromSorted_2 62 = .ok (.checkcast 338, 3) := dk_192 1 82 (dk_at dksJ10_buildFromSorted_2_2 15 rfl rfl)
theorem dJ10_buildFromSorted_2_65 : decode cJ10_buildFromSorted_2 65 = .ok (.astore 12, 2) := dk_58 12 (dk_at dksJ10_buildFromSorted_2_2 18 rfl rfl)
theorem dJ10_buildFromSorted_2_67 : decode cJ10_buildFromSorted_2 67 = .ok (.aload 12, 2) := dk_25 12 (dk_at dksJ10_buildFromSorted_2_2 20 rfl rfl)
theorem dJ10_buildFromSorted_2_69 : decode cJ10_buildFromSorted_2 69 = .ok (.invokeinterface 340 1, 5) := by decide +kernel
theorem dJ10_buildFromSorted_2_74 : decode cJ10_buildFromSorted_2 74 = .ok (.astore 10, 2) := dk_58 10 (dk_at dksJ10_buildFromSorted_2_3 5 rfl rfl)
theorem dJ10_buildFromSorted_2_76 : decode cJ10_buildFromSorted_2 76 = .ok (.aload 12, 2) := dk_25 12 (dk_at dksJ10_buildFromSorted_2_3 7 rfl rfl)
theorem dJ10_buildFromSorted_2_78 : decode cJ10_buildFromSorted_2 78 = .ok (.invokeinterface 347 1, 5) := by decide +kernel
theorem dJ10_buildFromSorted_2_83 : decode cJ10_buildFromSorted_2 83 = .ok (.astore 11, 2) := dk_58 11 (dk_at dksJ10_buildFromSorted_2_3 14 rfl rfl)
theorem dJ10_buildFromSorted_2_85 : decode cJ10_buildFromSorted_2 85 = .ok (.goto 43, 3) := dk_167 0 43 (dk_at dksJ10_buildFromSorted_2_3 16 rfl rfl)
theorem dJ10_buildFromSorted_2_88 : decode cJ10_buildFromSorted_2 88 = .ok (.aload 5, 2) := dk_25 5 (dk_at dksJ10_buildFromSorted_2_3 19 rfl rfl)
theorem dJ10_buildFromSorted_2_90 : decode cJ10_buildFromSorted_2 90 = .ok (.invokeinterface 335 1, 5) := by decide +kernel
theorem dJ10_buildFromSorted_2_95 : decode cJ10_buildFromSorted_2 95 = .ok (.astore 10, 2) := dk_58 10 (dk_at dksJ10_buildFromSorted_2_4 5 rfl rfl)
theorem dJ10_buildFromSorted_2_97 : decode cJ10_buildFromSorted_2 97 = .ok (.aload 7, 2) := dk_25 7 (dk_at dksJ10_buildFromSorted_2_4 7 rfl rfl)
theorem dJ10_buildFromSorted_2_99 : decode cJ10_buildFromSorted_2 99 = .ok (.astore 11, 2) := dk_58 11 (dk_at dksJ10_buildFromSorted_2_4 9 rfl rfl)
theorem dJ10_buildFromSorted_2_101 : decode cJ10_buildFromSorted_2 101 = .ok (.goto 27, 3) := dk_167 0 27 (dk_at dksJ10_buildFromSorted_2_4 11 rfl rfl)
theorem dJ10_buildFromSorted_2_104 : decode cJ10_buildFromSorted_2 104 = .ok (.aload 6, 2) := dk_25 6 (dk_at dksJ10_buildFromSorted_2_4 14 rfl rfl)
theorem dJ10_buildFromSorted_2_106 : decode cJ10_buildFromSorted_2 106 = .ok (.invokevirtual 369, 3) := dk_182 1 113 (dk_at dksJ10_buildFromSorted_2_4 16 rfl rfl)
theorem dJ10_buildFromSorted_2_109 : decode cJ10_buildFromSorted_2 109 = .ok (.astore 10, 2) := dk_58 10 (dk_at dksJ10_buildFromSorted_2_4 19 rfl rfl)
theorem dJ10_buildFromSorted_2_111 : decode cJ10_buildFromSorted_2 111 = .ok (.aload 7, 2) := dk_25 7 (dk_at dksJ10_buildFromSorted_2_4 21 rfl rfl)
theorem dJ10_buildFromSorted_2_113 : decode cJ10_buildFromSorted_2 113 = .ok (.ifnull 8, 3) := dk_198 0 8 (dk_at dksJ10_buildFromSorted_2_5 0 rfl rfl)
theorem dJ10_buildFromSorted_2_116 : decode cJ10_buildFromSorted_2 116 = .ok (.aload 7, 2) := dk_25 7 (dk_at dksJ10_buildFromSorted_2_5 3 rfl rfl)
theorem dJ10_buildFromSorted_2_118 : decode cJ10_buildFromSorted_2 118 = .ok (.goto 8, 3) := dk_167 0 8 (dk_at dksJ10_buildFromSorted_2_5 5 rfl rfl)
theorem dJ10_buildFromSorted_2_121 : decode cJ10_buildFromSorted_2 121 = .ok (.aload 6, 2) := dk_25 6 (dk_at dksJ10_buildFromSorted_2_5 8 rfl rfl)
theorem dJ10_buildFromSorted_2_123 : decode cJ10_buildFromSorted_2 123 = .ok (.invokevirtual 369, 3) := dk_182 1 113 (dk_at dksJ10_buildFromSorted_2_5 10 rfl rfl)
theorem dJ10_buildFromSorted_2_126 : decode cJ10_buildFromSorted_2 126 = .ok (.astore 11, 2) := dk_58 11 (dk_at dksJ10_buildFromSorted_2_5 13 rfl rfl)
theorem dJ10_buildFromSorted_2_128 : decode cJ10_buildFromSorted_2 128 = .ok (.new 59, 3) := dk_187 0 59 (dk_at dksJ10_buildFromSorted_2_5 15 rfl rfl)
theorem dJ10_buildFromSorted_2_131 : decode cJ10_buildFromSorted_2 131 = .ok (.dup, 1) := dk_89 (dk_at dksJ10_buildFromSorted_2_5 18 rfl rfl)
theorem dJ10_buildFromSorted_2_132 : decode cJ10_buildFromSorted_2 132 = .ok (.aload 10, 2) := dk_25 10 (dk_at dksJ10_buildFromSorted_2_5 19 rfl rfl)
theorem dJ10_buildFromSorted_2_134 : decode cJ10_buildFromSorted_2 134 = .ok (.aload 11, 2) := dk_25 11 (dk_at dksJ10_buildFromSorted_2_5 21 rfl rfl)
theorem dJ10_buildFromSorted_2_136 : decode cJ10_buildFromSorted_2 136 = .ok (.aconst_null, 1) := dk_1 (dk_at dksJ10_buildFromSorted_2_5 23 rfl rfl)
theorem dJ10_buildFromSorted_2_137 : decode cJ10_buildFromSorted_2 137 = .ok (.invokespecial 167, 3) := dk_183 0 167 (dk_at dksJ10_buildFromSorted_2_6 0 rfl rfl)
theorem dJ10_buildFromSorted_2_140 : decode cJ10_buildFromSorted_2 140 = .ok (.astore 12, 2) := dk_58 12 (dk_at dksJ10_buildFromSorted_2_6 3 rfl rfl)
theorem dJ10_buildFromSorted_2_142 : decode cJ10_buildFromSorted_2 142 = .ok (.iload_n 1, 1) := dk_27 (dk_at dksJ10_buildFromSorted_2_6 5 rfl rfl)
theorem dJ10_buildFromSorted_2_143 : decode cJ10_buildFromSorted_2 143 = .ok (.iload 4, 2) := dk_21 4 (dk_at dksJ10_buildFromSorted_2_6 6 rfl rfl)
theorem dJ10_buildFromSorted_2_145 : decode cJ10_buildFromSorted_2 145 = .ok (.if_icmp .ne 9, 3) := dk_160 0 9 (dk_at dksJ10_buildFromSorted_2_6 8 rfl rfl)
theorem dJ10_buildFromSorted_2_148 : decode cJ10_buildFromSorted_2 148 = .ok (.aload 12, 2) := dk_25 12 (dk_at dksJ10_buildFromSorted_2_6 11 rfl rfl)
theorem dJ10_buildFromSorted_2_150 : decode cJ10_buildFromSorted_2 150 = .ok (.iconst 0, 1) := dk_3 (dk_at dksJ10_buildFromSorted_2_6 13 rfl rfl)
theorem dJ10_buildFromSorted_2_151 : decode cJ10_buildFromSorted_2 151 = .ok (.putfield 290, 3) := dk_181 1 34 (dk_at dksJ10_buildFromSorted_2_6 14 rfl rfl)
theorem dJ10_buildFromSorted_2_154 : decode cJ10_buildFromSorted_2 154 = .ok (.aload 9, 2) := dk_25 9 (dk_at dksJ10_buildFromSorted_2_6 17 rfl rfl)
theorem dJ10_buildFromSorted_2_156 : decode cJ10_buildFromSorted_2 156 = .ok (.ifnull 17, 3) := dk_198 0 17 (dk_at dksJ10_buildFromSorted_2_6 19 rfl rfl)
theorem dJ10_buildFromSorted_2_159 : decode cJ10_buildFromSorted_2 159 = .ok (.aload 12, 2) := dk_25 12 (dk_at dksJ10_buildFromSorted_2_6 22 rfl rfl)
theorem dJ10_buildFromSorted_2_161 : decode cJ10_buildFromSorted_2 161 = .ok (.aload 9, 2) := dk_25 9 (dk_at dksJ10_buildFromSorted_2_7 0 rfl rfl)
theorem dJ10_buildFromSorted_2_163 : decode cJ10_buildFromSorted_2 163 = .ok (.putfield 111, 3) := dk_181 0 111 (dk_at dksJ10_buildFromSorted_2_7 2 rfl rfl)
theorem dJ10_buildFromSorted_2_166 : decode cJ10_buildFromSorted_2 166 = .ok (.aload 9, 2) := dk_25 9 (dk_at dksJ10_buildFromSorted_2_7 5 rfl rfl)
theorem dJ10_buildFromSorted_2_168 : decode cJ10_buildFromSorted_2 168 = .ok (.aload 12, 2) := dk_25 12 (dk_at dksJ10_buildFromSorted_2_7 7 rfl rfl)
theorem dJ10_buildFromSorted_2_170 : decode cJ10_buildFromSorted_2 170 = .ok (.putfield 124, 3) := dk_181 0 124 (dk_at dksJ10_buildFromSorted_2_7 9 rfl rfl)
theorem dJ10_buildFromSorted_2_173 : decode cJ10_buildFromSorted_2 173 = .ok (.iload 8, 2) := dk_21 8 (dk_at dksJ10_buildFromSorted_2_7 12 rfl rfl)
theorem dJ10_buildFromSorted_2_175 : decode cJ10_buildFromSorted_2 175 = .ok (.iload_n 3, 1) := dk_29 (dk_at dksJ10_buildFromSorted_2_7 14 rfl rfl)
theorem dJ10_buildFromSorted_2_176 : decode cJ10_buildFromSorted_2 176 = .ok (.if_icmp .ge 39, 3) := dk_162 0 39 (dk_at dksJ10_buildFromSorted_2_7 15 rfl rfl)
theorem dJ10_buildFromSorted_2_179 : decode cJ10_buildFromSorted_2 179 = .ok (.aload_n 0, 1) := dk_42 (dk_at dksJ10_buildFromSorted_2_7 18 rfl rfl)
theorem dJ10_buildFromSorted_2_180 : decode cJ10_buildFromSorted_2 180 = .ok (.iload_n 1, 1) := dk_27 (dk_at dksJ10_buildFromSorted_2_7 19 rfl rfl)
theorem dJ10_buildFromSorted_2_181 : decode cJ10_buildFromSorted_2 181 = .ok (.iconst 1, 1) := dk_4 (dk_at dksJ10_buildFromSorted_2_7 20 rfl rfl)
theorem dJ10_buildFromSorted_2_182 : decode cJ10_buildFromSorted_2 182 = .ok (.iadd, 1) := dk_96 (dk_at dksJ10_buildFromSorted_2_7 21 rfl rfl)
theorem dJ10_buildFromSorted_2_183 : decode cJ10_buildFromSorted_2 183 = .ok (.iload 8, 2) := dk_21 8 (dk_at dksJ10_buildFromSorted_2_7 22 rfl rfl)
theorem dJ10_buildFromSorted_2_185 : decode cJ10_buildFromSorted_2 185 = .ok (.iconst 1, 1) := dk_4 (dk_at dksJ10_buildFromSorted_2_8 0 rfl rfl)
theorem dJ10_buildFromSorted_2_186 : decode cJ10_buildFromSorted_2 186 = .ok (.iadd, 1) := dk_96 (dk_at dksJ10_buildFromSorted_2_8 1 rfl rfl)
theorem dJ10_buildFromSorted_2_187 : decode cJ10_buildFromSorted_2 187 = .ok (.iload_n 3, 1) := dk_29 (dk_at dksJ10_buildFromSorted_2_8 2 rfl rfl)
theorem dJ10_buildFromSorted_2_188 : decode cJ10_buildFromSorted_2 188 = .ok (.iload 4, 2) := dk_21 4 (dk_at dksJ10_buildFromSorted_2_8 3 rfl rfl)
theorem dJ10_buildFromSorted_2_190 : decode cJ10_buildFromSorted_2 190 = .ok (.aload 5, 2) := dk_25 5 (dk_at dksJ10_buildFromSorted_2_8 5 rfl rfl)
theorem dJ10_buildFromSorted_2_192 : decode cJ10_buildFromSorted_2 192 = .ok (.aload 6, 2) := dk_25 6 (dk_at dksJ10_buildFromSorted_2_8 7 rfl rfl)
theorem dJ10_buildFromSorted_2_194 : decode cJ10_buildFromSorted_2 194 = .ok (.aload 7, 2) := dk_25 7 (dk_at dksJ10_buildFromSorted_2_8 9 rfl rfl)
theorem dJ10_buildFromSorted_2_196 : decode cJ10_buildFromSorted_2 196 = .ok (.invokevirtual 366, 3) := dk_182 1 110 (dk_at dksJ10_buildFromSorted_2_8 11 rfl rfl)
theorem dJ10_buildFromSorted_2_199 : decode cJ10_buildFromSorted_2 199 = .ok (.astore 13, 2) := dk_58 13 (dk_at dksJ10_buildFromSorted_2_8 14 rfl rfl)
theorem dJ10_buildFromSorted_2_201 : decode cJ10_buildFromSorted_2 201 = .ok (.aload 12, 2) := dk_25 12 (dk_at dksJ10_buildFromSorted_2_8 16 rfl rfl)
theorem dJ10_buildFromSorted_2_203 : decode cJ10_buildFromSorted_2 203 = .ok (.aload 13, 2) := dk_25 13 (dk_at dksJ10_buildFromSorted_2_8 18 rfl rfl)
theorem dJ10_buildFromSorted_2_205 : decode cJ10_buildFromSorted_2 205 = .ok (.putfield 114, 3) := dk_181 0 114 (dk_at dksJ10_buildFromSorted_2_8 20 rfl rfl)
theorem dJ10_buildFromSorted_2_208 : decode cJ10_buildFromSorted_2 208 = .ok (.aload 13, 2) := dk_25 13 (dk_at dksJ10_buildFromSorted_2_9 0 rfl rfl)
theorem dJ10_buildFromSorted_2_210 : decode cJ10_buildFromSorted_2 210 = .ok (.aload 12, 2) := dk_25 12 (dk_at dksJ10_buildFromSorted_2_9 2 rfl rfl)
theorem dJ10_buildFromSorted_2_212 : decode cJ10_buildFromSorted_2 212 = .ok (.putfield 124, 3) := dk_181 0 124 (dk_at dksJ10_buildFromSorted_2_9 4 rfl rfl)
theorem dJ10_buildFromSorted_2_215 : decode cJ10_buildFromSorted_2 215 = .ok (.aload 12, 2) := dk_25 12 (dk_at dksJ10_buildFromSorted_2_9 7 rfl rfl)
theorem dJ10_buildFromSorted_2_217 : decode cJ10_buildFromSorted_2 217 = .ok (.areturn, 1) := dk_176 (dk_at dksJ10_buildFromSorted_2_9 9 rfl rfl)
abbrev cJ10_remove : ByteArray := prog_87_method_34_code
def yJ10_remove : MethodName := ⟨RJ10, "remove", "(Ljava/lang/Object;)Ljava/lang/Object;"⟩
def dkwJ10_remove_0 : List UInt8 := [42, 43, 182, 0, 50, 77, 44, 199, 0, 5, 1, 176, 44, 180, 0, 58, 78, 42, 44, 182, 0, 174, 45, 176]
abbrev dktJ10_remove_0 : List UInt8 := dkwJ10_remove_0 ++ []
theorem dksJ10_remove_0 : cJ10_remove.data.toList.drop 0 = dktJ10_remove_0 := by decide +kernel
theorem dJ10_remove_0 : decode cJ10_remove 0 = .ok (.aload_n 0, 1) := dk_42 (dk_at dksJ10_remove_0 0 rfl rfl)
theorem dJ10_remove_1 : decode cJ10_remove 1 = .ok (.aload_n 1, 1) := dk_43 (dk_at dksJ10_remove_0 1 rfl rfl)
theorem dJ10_remove_2 : decode cJ10_remove 2 = .ok (.invokevirtual 50, 3) := dk_182 0 50 (dk_at dksJ10_remove_0 2 rfl rfl)
theorem dJ10_remove_5 : decode cJ10_remove 5 = .ok (.astore_n 2, 1) := dk_77 (dk_at dksJ10_remove_0 5 rfl rfl)
theorem dJ10_remove_6 : decode cJ10_remove 6 = .ok (.aload_n 2, 1) := dk_44 (dk_at dksJ10_remove_0 6 rfl rfl)
theorem dJ10_remove_7 : decode cJ10_remove 7 = .ok (.ifnonnull 5, 3) := dk_199 0 5 (dk_at dksJ10_remove_0 7 rfl rfl)
theorem dJ10_remove_10 : decode cJ10_remove 10 = .ok (.aconst_null, 1) := dk_1 (dk_at dksJ10_remove_0 10 rfl rfl)
theorem dJ10_remove_11 : decode cJ10_remove 11 = .ok (.areturn, 1) := dk_176 (dk_at dksJ10_remove_0 11 rfl rfl)
theorem dJ10_remove_12 : decode cJ10_remove 12 = .ok (.aload_n 2, 1) := dk_44 (dk_at dksJ10_remove_0 12 rfl rfl)
theorem dJ10_remove_13 : decode cJ10_remove 13 = .ok (.getfield 58, 3) := dk_180 0 58 (dk_at dksJ10_remove_0 13 rfl rfl)
theorem dJ10_remove_16 : decode cJ10_remove 16 = .ok (.astore_n 3, 1) := dk_78 (dk_at dksJ10_remove_0 16 rfl rfl)
theorem dJ10_remove_17 : decode cJ10_remove 17 = .ok (.aload_n 0, 1) := dk_42 (dk_at dksJ10_remove_0 17 rfl rfl)
theorem dJ10_remove_18 : decode cJ10_remove 18 = .ok (.aload_n 2, 1) := dk_44 (dk_at dksJ10_remove_0 18 rfl rfl)
theorem dJ10_remove_19 : decode cJ10_remove 19 = .ok (.invokevirtual 174, 3) := dk_182 0 174 (dk_at dksJ10_remove_0 19 rfl rfl)
theorem dJ10_remove_22 : decode cJ10_remove 22 = .ok (.aload_n 3, 1) := dk_45 (dk_at dksJ10_remove_0 22 rfl rfl)
theorem dJ10_remove_23 : decode cJ10_remove 23 = .ok (.areturn, 1) := dk_176 (dk_at dksJ10_remove_0 23 rfl rfl)
theorem q91 : (Jvm.Cond.initialized "java/util/TreeMap") ∈ lw_all := lw_g (lw_at lw_m1 15 rfl) rfl
theorem q213 : (Jvm.Cond.fieldLink "java/util/TreeMap" (233 : Nat) "java/util/TreeMap" "values" "Ljava/util/Collection;") ∈ lw_all := lw_g (lw_at lw_m1 137 rfl) rfl
theorem q214 : (Jvm.Cond.sameField "java/util/TreeMap" "java/util/AbstractMap" "values" "Ljava/util/Collection;") ∈ lw_all := lw_g (lw_at lw_m1 138 rfl) rfl
theorem q774 : (Jvm.Cond.selects "java/util/TreeMap" ({ cls := "java/lang/Object", name := "getClass", desc := "()Ljava/lang/Class;" } : Jvm.MethodName) ({ cls := "java/lang/Object", name := "getClass", desc := "()Ljava/lang/Class;" } : Jvm.MethodName)) ∈ lw_all := lw_g (lw_at lw_m3 218 rfl) rfl
theorem q867 : (Jvm.Cond.instanceMethod ({ cls := "java/util/TreeMap", name := "getFirstEntry", desc := "()Ljava/util/TreeMap$Entry;" } : Jvm.MethodName)) ∈ lw_all := lw_g (lw_at lw_m4 71 rfl) rfl
theorem q868 : (Jvm.Cond.selects "java/util/TreeMap" ({ cls := "java/util/TreeMap", name := "getFirstEntry", desc := "()Ljava/util/TreeMap$Entry;" } : Jvm.MethodName) ({ cls := "java/util/TreeMap", name := "getFirstEntry", desc := "()Ljava/util/TreeMap$Entry;" } : Jvm.MethodName)) ∈ lw_all := lw_g (lw_at lw_m4 72 rfl) rfl
theorem q869 : (Jvm.Cond.code ({ cls := "java/util/TreeMap", name := "getFirstEntry", desc := "()Ljava/util/TreeMap$Entry;" } : Jvm.MethodName) prog_87_method_72_code (2 : Nat) (Option.some (Jvm.ClassFile.FieldType.object "java/util/TreeMap$Entry"))) ∈ lw_all := lw_g (lw_at lw_m4 73 rfl) rfl
theorem q898 : (Jvm.Cond.instanceMethod ({ cls := "java/util/TreeMap", name := "keyIterator", desc := "()Ljava/util/Iterator;" } : Jvm.MethodName)) ∈ lw_all := lw_g (lw_at lw_m4 102 rfl) rfl
theorem q899 : (Jvm.Cond.selects "java/util/TreeMap" ({ cls := "java/util/TreeMap", name := "keyIterator", desc := "()Ljava/util/Iterator;" } : Jvm.MethodName) ({ cls := "java/util/TreeMap", name := "keyIterator", desc := "()Ljava/util/Iterator;" } : Jvm.MethodName)) ∈ lw_all := lw_g (lw_at lw_m4 103 rfl) rfl
theorem q900 : (Jvm.Cond.code ({ cls := "java/util/TreeMap", name := "keyIterator", desc := "()Ljava/util/Iterator;" } : Jvm.MethodName) prog_87_method_65_code (1 : Nat) (Option.some (Jvm.ClassFile.FieldType.object "java/util/Iterator"))) ∈ lw_all := lw_g (lw_at lw_m4 104 rfl) rfl
theorem q901 : (Jvm.Cond.classLink "java/util/TreeMap" (269 : Nat) "java/util/TreeMap$KeyIterator") ∈ lw_all := lw_g (lw_at lw_m4 105 rfl) rfl
theorem q903 : (Jvm.Cond.methodLink "java/util/TreeMap" (54 : Nat) ({ cls := "java/util/TreeMap", name := "getFirstEntry", desc := "()Ljava/util/TreeMap$Entry;" } : Jvm.MethodName)) ∈ lw_all := lw_g (lw_at lw_m4 107 rfl) rfl
theorem q904 : (Jvm.Cond.methodLink "java/util/TreeMap" (271 : Nat) ({ cls := "java/util/TreeMap$KeyIterator", name := "<init>", desc := "(Ljava/util/TreeMap;Ljava/util/TreeMap$Entry;)V" } : Jvm.MethodName)) ∈ lw_all := lw_g (lw_at lw_m4 108 rfl) rfl
theorem q1032 : (Jvm.Cond.static ({ cls := "java/util/TreeMap", name := "successor", desc := "(Ljava/util/TreeMap$Entry;)Ljava/util/TreeMap$Entry;" } : Jvm.MethodName)) ∈ lw_all := lw_g (lw_at lw_m4 236 rfl) rfl
theorem q1033 : (Jvm.Cond.code ({ cls := "java/util/TreeMap", name := "successor", desc := "(Ljava/util/TreeMap$Entry;)Ljava/util/TreeMap$Entry;" } : Jvm.MethodName) prog_87_method_74_code (3 : Nat) (Option.some (Jvm.ClassFile.FieldType.object "java/util/TreeMap$Entry"))) ∈ lw_all := lw_g (lw_at lw_m4 237 rfl) rfl
theorem q1177 : (Jvm.Cond.instanceMethod ({ cls := "java/util/TreeMap", name := "values", desc := "()Ljava/util/Collection;" } : Jvm.MethodName)) ∈ lw_all := lw_g (lw_at lw_m5 141 rfl) rfl
theorem q1178 : (Jvm.Cond.selects "java/util/TreeMap" ({ cls := "java/util/TreeMap", name := "values", desc := "()Ljava/util/Collection;" } : Jvm.MethodName) ({ cls := "java/util/TreeMap", name := "values", desc := "()Ljava/util/Collection;" } : Jvm.MethodName)) ∈ lw_all := lw_g (lw_at lw_m5 142 rfl) rfl
theorem q1179 : (Jvm.Cond.code ({ cls := "java/util/TreeMap", name := "values", desc := "()Ljava/util/Collection;" } : Jvm.MethodName) prog_87_method_52_code (2 : Nat) (Option.some (Jvm.ClassFile.FieldType.object "java/util/Collection"))) ∈ lw_all := lw_g (lw_at lw_m5 143 rfl) rfl
theorem q1180 : (Jvm.Cond.classLink "java/util/TreeMap" (237 : Nat) "java/util/TreeMap$Values") ∈ lw_all := lw_g (lw_at lw_m5 144 rfl) rfl
theorem q1182 : (Jvm.Cond.methodLink "java/util/TreeMap" (239 : Nat) ({ cls := "java/util/TreeMap$Values", name := "<init>", desc := "(Ljava/util/TreeMap;)V" } : Jvm.MethodName)) ∈ lw_all := lw_g (lw_at lw_m5 146 rfl) rfl
theorem q1804 : (Jvm.Cond.instanceMethod ({ cls := "java/util/TreeMap", name := "containsKey", desc := "(Ljava/lang/Object;)Z" } : Jvm.MethodName)) ∈ lw_all := lw_g (lw_at lw_m8 48 rfl) rfl
theorem q1805 : (Jvm.Cond.selects "java/util/TreeMap" ({ cls := "java/util/TreeMap", name := "containsKey", desc := "(Ljava/lang/Object;)Z" } : Jvm.MethodName) ({ cls := "java/util/TreeMap", name := "containsKey", desc := "(Ljava/lang/Object;)Z" } : Jvm.MethodName)) ∈ lw_all := lw_g (lw_at lw_m8 49 rfl) rfl
theorem q1806 : (Jvm.Cond.code ({ cls := "java/util/TreeMap", name := "containsKey", desc := "(Ljava/lang/Object;)Z" } : Jvm.MethodName) prog_87_method_6_code (2 : Nat) (Option.some Jvm.ClassFile.FieldType.boolean)) ∈ lw_all := lw_g (lw_at lw_m8 50 rfl) rfl
theorem q1807 : (Jvm.Cond.methodLink "java/util/TreeMap" (50 : Nat) ({ cls := "java/util/TreeMap", name := "getEntry", desc := "(Ljava/lang/Object;)Ljava/util/TreeMap$Entry;" } : Jvm.MethodName)) ∈ lw_all := lw_g (lw_at lw_m8 51 rfl) rfl
theorem q1808 : (Jvm.Cond.instanceMethod ({ cls := "java/util/TreeMap", name := "getEntry", desc := "(Ljava/lang/Object;)Ljava/util/TreeMap$Entry;" } : Jvm.MethodName)) ∈ lw_all := lw_g (lw_at lw_m8 52 rfl) rfl
theorem q1809 : (Jvm.Cond.selects "java/util/TreeMap" ({ cls := "java/util/TreeMap", name := "getEntry", desc := "(Ljava/lang/Object;)Ljava/util/TreeMap$Entry;" } : Jvm.MethodName) ({ cls := "java/util/TreeMap", name := "getEntry", desc := "(Ljava/lang/Object;)Ljava/util/TreeMap$Entry;" } : Jvm.MethodName)) ∈ lw_all := lw_g (lw_at lw_m8 53 rfl) rfl
theorem q1810 : (Jvm.Cond.code ({ cls := "java/util/TreeMap", name := "getEntry", desc := "(Ljava/lang/Object;)Ljava/util/TreeMap$Entry;" } : Jvm.MethodName) prog_87_method_15_code (5 : Nat) (Option.some (Jvm.ClassFile.FieldType.object "java/util/TreeMap$Entry"))) ∈ lw_all := lw_g (lw_at lw_m8 54 rfl) rfl
theorem q1811 : (Jvm.Cond.methodLink "java/util/TreeMap" (92 : Nat) ({ cls := "java/util/TreeMap", name := "getEntryUsingComparator", desc := "(Ljava/lang/Object;)Ljava/util/TreeMap$Entry;" } : Jvm.MethodName)) ∈ lw_all := lw_g (lw_at lw_m8 55 rfl) rfl
theorem q1812 : (Jvm.Cond.instanceMethod ({ cls := "java/util/TreeMap", name := "getEntryUsingComparator", desc := "(Ljava/lang/Object;)Ljava/util/TreeMap$Entry;" } : Jvm.MethodName)) ∈ lw_all := lw_g (lw_at lw_m8 56 rfl) rfl
theorem q1813 : (Jvm.Cond.selects "java/util/TreeMap" ({ cls := "java/util/TreeMap", name := "getEntryUsingComparator", desc := "(Ljava/lang/Object;)Ljava/util/TreeMap$Entry;" } : Jvm.MethodName) ({ cls := "java/util/TreeMap", name := "getEntryUsingComparator", desc := "(Ljava/lang/Object;)Ljava/util/TreeMap$Entry;" } : Jvm.MethodName)) ∈ lw_all := lw_g (lw_at lw_m8 57 rfl) rfl
theorem q1814 : (Jvm.Cond.code ({ cls := "java/util/TreeMap", name := "getEntryUsingComparator", desc := "(Ljava/lang/Object;)Ljava/util/TreeMap$Entry;" } : Jvm.MethodName) prog_87_method_16_code (6 : Nat) (Option.some (Jvm.ClassFile.FieldType.object "java/util/TreeMap$Entry"))) ∈ lw_all := lw_g (lw_at lw_m8 58 rfl) rfl
theorem q1815 : (Jvm.Cond.interfaceEntry "java/util/TreeMap" (117 : Nat)) ∈ lw_tbl := lw_at lw_m8 59 rfl
theorem q1816 : (Jvm.Cond.methodLink "java/util/TreeMap" (117 : Nat) ({ cls := "java/util/Comparator", name := "compare", desc := "(Ljava/lang/Object;Ljava/lang/Object;)I" } : Jvm.MethodName)) ∈ lw_all := lw_g (lw_at lw_m8 60 rfl) rfl
theorem q1819 : (Jvm.Cond.methodLink "java/util/TreeMap" (95 : Nat) ({ cls := "java/util/Objects", name := "requireNonNull", desc := "(Ljava/lang/Object;)Ljava/lang/Object;" } : Jvm.MethodName)) ∈ lw_all := lw_g (lw_at lw_m8 63 rfl) rfl
theorem q1822 : (Jvm.Cond.classLink "java/util/TreeMap" (99 : Nat) "java/lang/Comparable") ∈ lw_all := lw_g (lw_at lw_m8 66 rfl) rfl
theorem q1823 : (Jvm.Cond.interfaceEntry "java/util/TreeMap" (107 : Nat)) ∈ lw_tbl := lw_at lw_m8 67 rfl
theorem q1824 : (Jvm.Cond.methodLink "java/util/TreeMap" (107 : Nat) ({ cls := "java/lang/Comparable", name := "compareTo", desc := "(Ljava/lang/Object;)I" } : Jvm.MethodName)) ∈ lw_all := lw_g (lw_at lw_m8 68 rfl) rfl
theorem q1826 : (Jvm.Cond.instanceMethod ({ cls := "java/util/TreeMap", name := "get", desc := "(Ljava/lang/Object;)Ljava/lang/Object;" } : Jvm.MethodName)) ∈ lw_all := lw_g (lw_at lw_m8 70 rfl) rfl
theorem q1827 : (Jvm.Cond.selects "java/util/TreeMap" ({ cls := "java/util/TreeMap", name := "get", desc := "(Ljava/lang/Object;)Ljava/lang/Object;" } : Jvm.MethodName) ({ cls := "java/util/TreeMap", name := "get", desc := "(Ljava/lang/Object;)Ljava/lang/Object;" } : Jvm.MethodName)) ∈ lw_all := lw_g (lw_at lw_m8 71 rfl) rfl
theorem q1828 : (Jvm.Cond.code ({ cls := "java/util/TreeMap", name := "get", desc := "(Ljava/lang/Object;)Ljava/lang/Object;" } : Jvm.MethodName) prog_87_method_8_code (3 : Nat) (Option.some (Jvm.ClassFile.FieldType.object "java/lang/Object"))) ∈ lw_all := lw_g (lw_at lw_m8 72 rfl) rfl
theorem q1865 : (Jvm.Cond.instantiable "java/util/TreeMap" (9 : Nat)) ∈ lw_all := lw_g (lw_at lw_m8 109 rfl) rfl
theorem q1867 : (Jvm.Cond.instanceMethod ({ cls := "java/util/TreeMap", name := "<init>", desc := "()V" } : Jvm.MethodName)) ∈ lw_all := lw_g (lw_at lw_m8 111 rfl) rfl
theorem q1868 : (Jvm.Cond.code ({ cls := "java/util/TreeMap", name := "<init>", desc := "()V" } : Jvm.MethodName) prog_87_method_1_code (1 : Nat) (Option.none : Option Jvm.ClassFile.FieldType)) ∈ lw_all := lw_g (lw_at lw_m8 112 rfl) rfl
theorem q1869 : (Jvm.Cond.methodLink "java/util/TreeMap" (1 : Nat) ({ cls := "java/util/AbstractMap", name := "<init>", desc := "()V" } : Jvm.MethodName)) ∈ lw_all := lw_g (lw_at lw_m8 113 rfl) rfl
theorem q1870 : (Jvm.Cond.fieldLink "java/util/TreeMap" (16 : Nat) "java/util/TreeMap" "comparator" "Ljava/util/Comparator;") ∈ lw_all := lw_g (lw_at lw_m8 114 rfl) rfl
theorem q1871 : (Jvm.Cond.fieldLink "java/util/TreeMap" (101 : Nat) "java/util/TreeMap" "root" "Ljava/util/TreeMap$Entry;") ∈ lw_all := lw_g (lw_at lw_m8 115 rfl) rfl
theorem q1872 : (Jvm.Cond.fieldLink "java/util/TreeMap" (7 : Nat) "java/util/TreeMap" "size" "I") ∈ lw_all := lw_g (lw_at lw_m8 116 rfl) rfl
theorem q1873 : (Jvm.Cond.fieldLink "java/util/TreeMap" (13 : Nat) "java/util/TreeMap" "modCount" "I") ∈ lw_all := lw_g (lw_at lw_m8 117 rfl) rfl
theorem q1875 : (Jvm.Cond.fieldLink "java/util/TreeMap" (188 : Nat) "java/util/TreeMap" "entrySet" "Ljava/util/TreeMap$EntrySet;") ∈ lw_all := lw_g (lw_at lw_m8 119 rfl) rfl
theorem q1876 : (Jvm.Cond.fieldLink "java/util/TreeMap" (191 : Nat) "java/util/TreeMap" "navigableKeySet" "Ljava/util/TreeMap$KeySet;") ∈ lw_all := lw_g (lw_at lw_m8 120 rfl) rfl
theorem q1877 : (Jvm.Cond.laysFinal "java/util/TreeMap" "java/util/TreeMap" "comparator" "Ljava/util/Comparator;") ∈ lw_all := lw_g (lw_at lw_m8 121 rfl) rfl
theorem q1878 : (Jvm.Cond.soleField "java/util/TreeMap" "comparator") ∈ lw_all := lw_g (lw_at lw_m8 122 rfl) rfl
theorem q1879 : (Jvm.Cond.lays "java/util/TreeMap" "java/util/TreeMap" "root" "Ljava/util/TreeMap$Entry;") ∈ lw_all := lw_g (lw_at lw_m8 123 rfl) rfl
theorem q1880 : (Jvm.Cond.soleField "java/util/TreeMap" "root") ∈ lw_all := lw_g (lw_at lw_m8 124 rfl) rfl
theorem q1881 : (Jvm.Cond.lays "java/util/TreeMap" "java/util/TreeMap" "size" "I") ∈ lw_all := lw_g (lw_at lw_m8 125 rfl) rfl
theorem q1882 : (Jvm.Cond.soleField "java/util/TreeMap" "size") ∈ lw_all := lw_g (lw_at lw_m8 126 rfl) rfl
theorem q1883 : (Jvm.Cond.lays "java/util/TreeMap" "java/util/TreeMap" "modCount" "I") ∈ lw_all := lw_g (lw_at lw_m8 127 rfl) rfl
theorem q1884 : (Jvm.Cond.soleField "java/util/TreeMap" "modCount") ∈ lw_all := lw_g (lw_at lw_m8 128 rfl) rfl
theorem q1885 : (Jvm.Cond.lays "java/util/TreeMap" "java/util/TreeMap" "entrySet" "Ljava/util/TreeMap$EntrySet;") ∈ lw_all := lw_g (lw_at lw_m8 129 rfl) rfl
theorem q1886 : (Jvm.Cond.soleField "java/util/TreeMap" "entrySet") ∈ lw_all := lw_g (lw_at lw_m8 130 rfl) rfl
theorem q1887 : (Jvm.Cond.lays "java/util/TreeMap" "java/util/TreeMap" "navigableKeySet" "Ljava/util/TreeMap$KeySet;") ∈ lw_all := lw_g (lw_at lw_m8 131 rfl) rfl
theorem q1888 : (Jvm.Cond.soleField "java/util/TreeMap" "navigableKeySet") ∈ lw_all := lw_g (lw_at lw_m8 132 rfl) rfl
theorem q1889 : (Jvm.Cond.lays "java/util/TreeMap" "java/util/TreeMap" "descendingMap" "Ljava/util/NavigableMap;") ∈ lw_all := lw_g (lw_at lw_m8 133 rfl) rfl
theorem q1890 : (Jvm.Cond.soleField "java/util/TreeMap" "descendingMap") ∈ lw_all := lw_g (lw_at lw_m8 134 rfl) rfl
theorem q1891 : (Jvm.Cond.lays "java/util/TreeMap" "java/util/AbstractMap" "keySet" "Ljava/util/Set;") ∈ lw_all := lw_g (lw_at lw_m8 135 rfl) rfl
theorem q1892 : (Jvm.Cond.lays "java/util/TreeMap" "java/util/AbstractMap" "values" "Ljava/util/Collection;") ∈ lw_all := lw_g (lw_at lw_m8 136 rfl) rfl
theorem q1893 : (Jvm.Cond.superclass "java/util/TreeMap" "java/util/AbstractMap") ∈ lw_all := lw_g (lw_at lw_m8 137 rfl) rfl
theorem q2085 : (Jvm.Cond.instanceMethod ({ cls := "java/util/TreeMap", name := "put", desc := "(Ljava/lang/Object;Ljava/lang/Object;)Ljava/lang/Object;" } : Jvm.MethodName)) ∈ lw_all := lw_g (lw_at lw_m9 89 rfl) rfl
theorem q2086 : (Jvm.Cond.selects "java/util/TreeMap" ({ cls := "java/util/TreeMap", name := "put", desc := "(Ljava/lang/Object;Ljava/lang/Object;)Ljava/lang/Object;" } : Jvm.MethodName) ({ cls := "java/util/TreeMap", name := "put", desc := "(Ljava/lang/Object;Ljava/lang/Object;)Ljava/lang/Object;" } : Jvm.MethodName)) ∈ lw_all := lw_g (lw_at lw_m9 90 rfl) rfl
theorem q2087 : (Jvm.Cond.code ({ cls := "java/util/TreeMap", name := "put", desc := "(Ljava/lang/Object;Ljava/lang/Object;)Ljava/lang/Object;" } : Jvm.MethodName) prog_87_method_21_code (3 : Nat) (Option.some (Jvm.ClassFile.FieldType.object "java/lang/Object"))) ∈ lw_all := lw_g (lw_at lw_m9 91 rfl) rfl
theorem q2088 : (Jvm.Cond.methodLink "java/util/TreeMap" (127 : Nat) ({ cls := "java/util/TreeMap", name := "put", desc := "(Ljava/lang/Object;Ljava/lang/Object;Z)Ljava/lang/Object;" } : Jvm.MethodName)) ∈ lw_all := lw_g (lw_at lw_m9 92 rfl) rfl
theorem q2089 : (Jvm.Cond.privateMethod ({ cls := "java/util/TreeMap", name := "put", desc := "(Ljava/lang/Object;Ljava/lang/Object;Z)Ljava/lang/Object;" } : Jvm.MethodName)) ∈ lw_tbl := lw_at lw_m9 93 rfl
theorem q2090 : (Jvm.Cond.instanceMethod ({ cls := "java/util/TreeMap", name := "put", desc := "(Ljava/lang/Object;Ljava/lang/Object;Z)Ljava/lang/Object;" } : Jvm.MethodName)) ∈ lw_all := lw_g (lw_at lw_m9 94 rfl) rfl
theorem q2091 : (Jvm.Cond.code ({ cls := "java/util/TreeMap", name := "put", desc := "(Ljava/lang/Object;Ljava/lang/Object;Z)Ljava/lang/Object;" } : Jvm.MethodName) prog_87_method_31_code (10 : Nat) (Option.some (Jvm.ClassFile.FieldType.object "java/lang/Object"))) ∈ lw_all := lw_g (lw_at lw_m9 95 rfl) rfl
theorem q2092 : (Jvm.Cond.methodLink "java/util/TreeMap" (135 : Nat) ({ cls := "java/util/TreeMap", name := "addEntryToEmptyMap", desc := "(Ljava/lang/Object;Ljava/lang/Object;)V" } : Jvm.MethodName)) ∈ lw_all := lw_g (lw_at lw_m9 96 rfl) rfl
theorem q2093 : (Jvm.Cond.privateMethod ({ cls := "java/util/TreeMap", name := "addEntryToEmptyMap", desc := "(Ljava/lang/Object;Ljava/lang/Object;)V" } : Jvm.MethodName)) ∈ lw_tbl := lw_at lw_m9 97 rfl
theorem q2094 : (Jvm.Cond.instanceMethod ({ cls := "java/util/TreeMap", name := "addEntryToEmptyMap", desc := "(Ljava/lang/Object;Ljava/lang/Object;)V" } : Jvm.MethodName)) ∈ lw_all := lw_g (lw_at lw_m9 98 rfl) rfl
theorem q2095 : (Jvm.Cond.code ({ cls := "java/util/TreeMap", name := "addEntryToEmptyMap", desc := "(Ljava/lang/Object;Ljava/lang/Object;)V" } : Jvm.MethodName) prog_87_method_30_code (3 : Nat) (Option.none : Option Jvm.ClassFile.FieldType)) ∈ lw_all := lw_g (lw_at lw_m9 99 rfl) rfl
theorem q2096 : (Jvm.Cond.methodLink "java/util/TreeMap" (123 : Nat) ({ cls := "java/util/TreeMap", name := "compare", desc := "(Ljava/lang/Object;Ljava/lang/Object;)I" } : Jvm.MethodName)) ∈ lw_all := lw_g (lw_at lw_m9 100 rfl) rfl
theorem q2097 : (Jvm.Cond.instanceMethod ({ cls := "java/util/TreeMap", name := "compare", desc := "(Ljava/lang/Object;Ljava/lang/Object;)I" } : Jvm.MethodName)) ∈ lw_all := lw_g (lw_at lw_m9 101 rfl) rfl
theorem q2098 : (Jvm.Cond.selects "java/util/TreeMap" ({ cls := "java/util/TreeMap", name := "compare", desc := "(Ljava/lang/Object;Ljava/lang/Object;)I" } : Jvm.MethodName) ({ cls := "java/util/TreeMap", name := "compare", desc := "(Ljava/lang/Object;Ljava/lang/Object;)I" } : Jvm.MethodName)) ∈ lw_all := lw_g (lw_at lw_m9 102 rfl) rfl
theorem q2099 : (Jvm.Cond.code ({ cls := "java/util/TreeMap", name := "compare", desc := "(Ljava/lang/Object;Ljava/lang/Object;)I" } : Jvm.MethodName) prog_87_method_67_code (3 : Nat) (Option.some Jvm.ClassFile.FieldType.int)) ∈ lw_all := lw_g (lw_at lw_m9 103 rfl) rfl
theorem q2100 : (Jvm.Cond.classLink "java/util/TreeMap" (59 : Nat) "java/util/TreeMap$Entry") ∈ lw_all := lw_g (lw_at lw_m9 104 rfl) rfl
theorem q2102 : (Jvm.Cond.methodLink "java/util/TreeMap" (167 : Nat) ({ cls := "java/util/TreeMap$Entry", name := "<init>", desc := "(Ljava/lang/Object;Ljava/lang/Object;Ljava/util/TreeMap$Entry;)V" } : Jvm.MethodName)) ∈ lw_all := lw_g (lw_at lw_m9 106 rfl) rfl
theorem q2108 : (Jvm.Cond.fieldLink "java/util/TreeMap" (105 : Nat) "java/util/TreeMap$Entry" "key" "Ljava/lang/Object;") ∈ lw_all := lw_g (lw_at lw_m9 112 rfl) rfl
theorem q2111 : (Jvm.Cond.fieldLink "java/util/TreeMap" (58 : Nat) "java/util/TreeMap$Entry" "value" "Ljava/lang/Object;") ∈ lw_all := lw_g (lw_at lw_m9 115 rfl) rfl
theorem q2113 : (Jvm.Cond.fieldLink "java/util/TreeMap" (111 : Nat) "java/util/TreeMap$Entry" "left" "Ljava/util/TreeMap$Entry;") ∈ lw_all := lw_g (lw_at lw_m9 117 rfl) rfl
theorem q2115 : (Jvm.Cond.fieldLink "java/util/TreeMap" (114 : Nat) "java/util/TreeMap$Entry" "right" "Ljava/util/TreeMap$Entry;") ∈ lw_all := lw_g (lw_at lw_m9 119 rfl) rfl
theorem q2117 : (Jvm.Cond.fieldLink "java/util/TreeMap" (124 : Nat) "java/util/TreeMap$Entry" "parent" "Ljava/util/TreeMap$Entry;") ∈ lw_all := lw_g (lw_at lw_m9 121 rfl) rfl
theorem q2119 : (Jvm.Cond.fieldLink "java/util/TreeMap" (290 : Nat) "java/util/TreeMap$Entry" "color" "Z") ∈ lw_all := lw_g (lw_at lw_m9 123 rfl) rfl
theorem q2133 : (Jvm.Cond.methodLink "java/util/TreeMap" (139 : Nat) ({ cls := "java/util/TreeMap", name := "addEntry", desc := "(Ljava/lang/Object;Ljava/lang/Object;Ljava/util/TreeMap$Entry;Z)V" } : Jvm.MethodName)) ∈ lw_all := lw_g (lw_at lw_m9 137 rfl) rfl
theorem q2134 : (Jvm.Cond.privateMethod ({ cls := "java/util/TreeMap", name := "addEntry", desc := "(Ljava/lang/Object;Ljava/lang/Object;Ljava/util/TreeMap$Entry;Z)V" } : Jvm.MethodName)) ∈ lw_tbl := lw_at lw_m9 138 rfl
theorem q2135 : (Jvm.Cond.instanceMethod ({ cls := "java/util/TreeMap", name := "addEntry", desc := "(Ljava/lang/Object;Ljava/lang/Object;Ljava/util/TreeMap$Entry;Z)V" } : Jvm.MethodName)) ∈ lw_all := lw_g (lw_at lw_m9 139 rfl) rfl
theorem q2136 : (Jvm.Cond.code ({ cls := "java/util/TreeMap", name := "addEntry", desc := "(Ljava/lang/Object;Ljava/lang/Object;Ljava/util/TreeMap$Entry;Z)V" } : Jvm.MethodName) prog_87_method_29_code (6 : Nat) (Option.none : Option Jvm.ClassFile.FieldType)) ∈ lw_all := lw_g (lw_at lw_m9 140 rfl) rfl
theorem q2137 : (Jvm.Cond.methodLink "java/util/TreeMap" (170 : Nat) ({ cls := "java/util/TreeMap", name := "fixAfterInsertion", desc := "(Ljava/util/TreeMap$Entry;)V" } : Jvm.MethodName)) ∈ lw_all := lw_g (lw_at lw_m9 141 rfl) rfl
theorem q2138 : (Jvm.Cond.privateMethod ({ cls := "java/util/TreeMap", name := "fixAfterInsertion", desc := "(Ljava/util/TreeMap$Entry;)V" } : Jvm.MethodName)) ∈ lw_tbl := lw_at lw_m9 142 rfl
theorem q2139 : (Jvm.Cond.instanceMethod ({ cls := "java/util/TreeMap", name := "fixAfterInsertion", desc := "(Ljava/util/TreeMap$Entry;)V" } : Jvm.MethodName)) ∈ lw_all := lw_g (lw_at lw_m9 143 rfl) rfl
theorem q2140 : (Jvm.Cond.code ({ cls := "java/util/TreeMap", name := "fixAfterInsertion", desc := "(Ljava/util/TreeMap$Entry;)V" } : Jvm.MethodName) prog_87_method_83_code (3 : Nat) (Option.none : Option Jvm.ClassFile.FieldType)) ∈ lw_all := lw_g (lw_at lw_m9 144 rfl) rfl
theorem q2141 : (Jvm.Cond.methodLink "java/util/TreeMap" (294 : Nat) ({ cls := "java/util/TreeMap", name := "parentOf", desc := "(Ljava/util/TreeMap$Entry;)Ljava/util/TreeMap$Entry;" } : Jvm.MethodName)) ∈ lw_all := lw_g (lw_at lw_m9 145 rfl) rfl
theorem q2142 : (Jvm.Cond.static ({ cls := "java/util/TreeMap", name := "parentOf", desc := "(Ljava/util/TreeMap$Entry;)Ljava/util/TreeMap$Entry;" } : Jvm.MethodName)) ∈ lw_all := lw_g (lw_at lw_m9 146 rfl) rfl
theorem q2143 : (Jvm.Cond.code ({ cls := "java/util/TreeMap", name := "parentOf", desc := "(Ljava/util/TreeMap$Entry;)Ljava/util/TreeMap$Entry;" } : Jvm.MethodName) prog_87_method_77_code (1 : Nat) (Option.some (Jvm.ClassFile.FieldType.object "java/util/TreeMap$Entry"))) ∈ lw_all := lw_g (lw_at lw_m9 147 rfl) rfl
theorem q2144 : (Jvm.Cond.methodLink "java/util/TreeMap" (297 : Nat) ({ cls := "java/util/TreeMap", name := "leftOf", desc := "(Ljava/util/TreeMap$Entry;)Ljava/util/TreeMap$Entry;" } : Jvm.MethodName)) ∈ lw_all := lw_g (lw_at lw_m9 148 rfl) rfl
theorem q2145 : (Jvm.Cond.static ({ cls := "java/util/TreeMap", name := "leftOf", desc := "(Ljava/util/TreeMap$Entry;)Ljava/util/TreeMap$Entry;" } : Jvm.MethodName)) ∈ lw_all := lw_g (lw_at lw_m9 149 rfl) rfl
theorem q2146 : (Jvm.Cond.code ({ cls := "java/util/TreeMap", name := "leftOf", desc := "(Ljava/util/TreeMap$Entry;)Ljava/util/TreeMap$Entry;" } : Jvm.MethodName) prog_87_method_79_code (1 : Nat) (Option.some (Jvm.ClassFile.FieldType.object "java/util/TreeMap$Entry"))) ∈ lw_all := lw_g (lw_at lw_m9 150 rfl) rfl
theorem q2147 : (Jvm.Cond.methodLink "java/util/TreeMap" (300 : Nat) ({ cls := "java/util/TreeMap", name := "rightOf", desc := "(Ljava/util/TreeMap$Entry;)Ljava/util/TreeMap$Entry;" } : Jvm.MethodName)) ∈ lw_all := lw_g (lw_at lw_m9 151 rfl) rfl
theorem q2148 : (Jvm.Cond.static ({ cls := "java/util/TreeMap", name := "rightOf", desc := "(Ljava/util/TreeMap$Entry;)Ljava/util/TreeMap$Entry;" } : Jvm.MethodName)) ∈ lw_all := lw_g (lw_at lw_m9 152 rfl) rfl
theorem q2149 : (Jvm.Cond.code ({ cls := "java/util/TreeMap", name := "rightOf", desc := "(Ljava/util/TreeMap$Entry;)Ljava/util/TreeMap$Entry;" } : Jvm.MethodName) prog_87_method_80_code (1 : Nat) (Option.some (Jvm.ClassFile.FieldType.object "java/util/TreeMap$Entry"))) ∈ lw_all := lw_g (lw_at lw_m9 153 rfl) rfl
theorem q2150 : (Jvm.Cond.methodLink "java/util/TreeMap" (303 : Nat) ({ cls := "java/util/TreeMap", name := "colorOf", desc := "(Ljava/util/TreeMap$Entry;)Z" } : Jvm.MethodName)) ∈ lw_all := lw_g (lw_at lw_m9 154 rfl) rfl
theorem q2151 : (Jvm.Cond.static ({ cls := "java/util/TreeMap", name := "colorOf", desc := "(Ljava/util/TreeMap$Entry;)Z" } : Jvm.MethodName)) ∈ lw_all := lw_g (lw_at lw_m9 155 rfl) rfl
theorem q2152 : (Jvm.Cond.code ({ cls := "java/util/TreeMap", name := "colorOf", desc := "(Ljava/util/TreeMap$Entry;)Z" } : Jvm.MethodName) prog_87_method_76_code (1 : Nat) (Option.some Jvm.ClassFile.FieldType.boolean)) ∈ lw_all := lw_g (lw_at lw_m9 156 rfl) rfl
theorem q2153 : (Jvm.Cond.methodLink "java/util/TreeMap" (307 : Nat) ({ cls := "java/util/TreeMap", name := "setColor", desc := "(Ljava/util/TreeMap$Entry;Z)V" } : Jvm.MethodName)) ∈ lw_all := lw_g (lw_at lw_m9 157 rfl) rfl
theorem q2154 : (Jvm.Cond.static ({ cls := "java/util/TreeMap", name := "setColor", desc := "(Ljava/util/TreeMap$Entry;Z)V" } : Jvm.MethodName)) ∈ lw_all := lw_g (lw_at lw_m9 158 rfl) rfl
theorem q2155 : (Jvm.Cond.code ({ cls := "java/util/TreeMap", name := "setColor", desc := "(Ljava/util/TreeMap$Entry;Z)V" } : Jvm.MethodName) prog_87_method_78_code (2 : Nat) (Option.none : Option Jvm.ClassFile.FieldType)) ∈ lw_all := lw_g (lw_at lw_m9 159 rfl) rfl
theorem q2156 : (Jvm.Cond.methodLink "java/util/TreeMap" (311 : Nat) ({ cls := "java/util/TreeMap", name := "rotateLeft", desc := "(Ljava/util/TreeMap$Entry;)V" } : Jvm.MethodName)) ∈ lw_all := lw_g (lw_at lw_m9 160 rfl) rfl
theorem q2157 : (Jvm.Cond.privateMethod ({ cls := "java/util/TreeMap", name := "rotateLeft", desc := "(Ljava/util/TreeMap$Entry;)V" } : Jvm.MethodName)) ∈ lw_tbl := lw_at lw_m9 161 rfl
theorem q2158 : (Jvm.Cond.instanceMethod ({ cls := "java/util/TreeMap", name := "rotateLeft", desc := "(Ljava/util/TreeMap$Entry;)V" } : Jvm.MethodName)) ∈ lw_all := lw_g (lw_at lw_m9 162 rfl) rfl
theorem q2159 : (Jvm.Cond.code ({ cls := "java/util/TreeMap", name := "rotateLeft", desc := "(Ljava/util/TreeMap$Entry;)V" } : Jvm.MethodName) prog_87_method_81_code (3 : Nat) (Option.none : Option Jvm.ClassFile.FieldType)) ∈ lw_all := lw_g (lw_at lw_m9 163 rfl) rfl
theorem q2160 : (Jvm.Cond.methodLink "java/util/TreeMap" (314 : Nat) ({ cls := "java/util/TreeMap", name := "rotateRight", desc := "(Ljava/util/TreeMap$Entry;)V" } : Jvm.MethodName)) ∈ lw_all := lw_g (lw_at lw_m9 164 rfl) rfl
theorem q2161 : (Jvm.Cond.privateMethod ({ cls := "java/util/TreeMap", name := "rotateRight", desc := "(Ljava/util/TreeMap$Entry;)V" } : Jvm.MethodName)) ∈ lw_tbl := lw_at lw_m9 165 rfl
theorem q2162 : (Jvm.Cond.instanceMethod ({ cls := "java/util/TreeMap", name := "rotateRight", desc := "(Ljava/util/TreeMap$Entry;)V" } : Jvm.MethodName)) ∈ lw_all := lw_g (lw_at lw_m9 166 rfl) rfl
theorem q2163 : (Jvm.Cond.code ({ cls := "java/util/TreeMap", name := "rotateRight", desc := "(Ljava/util/TreeMap$Entry;)V" } : Jvm.MethodName) prog_87_method_82_code (3 : Nat) (Option.none : Option Jvm.ClassFile.FieldType)) ∈ lw_all := lw_g (lw_at lw_m9 167 rfl) rfl
theorem q2178 : (Jvm.Cond.instanceMethod ({ cls := "java/util/TreeMap", name := "clear", desc := "()V" } : Jvm.MethodName)) ∈ lw_all := lw_g (lw_at lw_m9 182 rfl) rfl
theorem q2179 : (Jvm.Cond.selects "java/util/TreeMap" ({ cls := "java/util/TreeMap", name := "clear", desc := "()V" } : Jvm.MethodName) ({ cls := "java/util/TreeMap", name := "clear", desc := "()V" } : Jvm.MethodName)) ∈ lw_all := lw_g (lw_at lw_m9 183 rfl) rfl
theorem q2180 : (Jvm.Cond.code ({ cls := "java/util/TreeMap", name := "clear", desc := "()V" } : Jvm.MethodName) prog_87_method_35_code (1 : Nat) (Option.none : Option Jvm.ClassFile.FieldType)) ∈ lw_all := lw_g (lw_at lw_m9 184 rfl) rfl
theorem q2209 : (Jvm.Cond.instanceMethod ({ cls := "java/util/TreeMap", name := "keySet", desc := "()Ljava/util/Set;" } : Jvm.MethodName)) ∈ lw_all := lw_g (lw_at lw_m9 213 rfl) rfl
theorem q2210 : (Jvm.Cond.selects "java/util/TreeMap" ({ cls := "java/util/TreeMap", name := "keySet", desc := "()Ljava/util/Set;" } : Jvm.MethodName) ({ cls := "java/util/TreeMap", name := "keySet", desc := "()Ljava/util/Set;" } : Jvm.MethodName)) ∈ lw_all := lw_g (lw_at lw_m9 214 rfl) rfl
theorem q2211 : (Jvm.Cond.code ({ cls := "java/util/TreeMap", name := "keySet", desc := "()Ljava/util/Set;" } : Jvm.MethodName) prog_87_method_49_code (1 : Nat) (Option.some (Jvm.ClassFile.FieldType.object "java/util/Set"))) ∈ lw_all := lw_g (lw_at lw_m9 215 rfl) rfl
theorem q2212 : (Jvm.Cond.methodLink "java/util/TreeMap" (219 : Nat) ({ cls := "java/util/TreeMap", name := "navigableKeySet", desc := "()Ljava/util/NavigableSet;" } : Jvm.MethodName)) ∈ lw_all := lw_g (lw_at lw_m9 216 rfl) rfl
theorem q2213 : (Jvm.Cond.instanceMethod ({ cls := "java/util/TreeMap", name := "navigableKeySet", desc := "()Ljava/util/NavigableSet;" } : Jvm.MethodName)) ∈ lw_all := lw_g (lw_at lw_m9 217 rfl) rfl
theorem q2214 : (Jvm.Cond.selects "java/util/TreeMap" ({ cls := "java/util/TreeMap", name := "navigableKeySet", desc := "()Ljava/util/NavigableSet;" } : Jvm.MethodName) ({ cls := "java/util/TreeMap", name := "navigableKeySet", desc := "()Ljava/util/NavigableSet;" } : Jvm.MethodName)) ∈ lw_all := lw_g (lw_at lw_m9 218 rfl) rfl
theorem q2215 : (Jvm.Cond.code ({ cls := "java/util/TreeMap", name := "navigableKeySet", desc := "()Ljava/util/NavigableSet;" } : Jvm.MethodName) prog_87_method_50_code (2 : Nat) (Option.some (Jvm.ClassFile.FieldType.object "java/util/NavigableSet"))) ∈ lw_all := lw_g (lw_at lw_m9 219 rfl) rfl
theorem q2216 : (Jvm.Cond.classLink "java/util/TreeMap" (222 : Nat) "java/util/TreeMap$KeySet") ∈ lw_all := lw_g (lw_at lw_m9 220 rfl) rfl
theorem q2218 : (Jvm.Cond.methodLink "java/util/TreeMap" (224 : Nat) ({ cls := "java/util/TreeMap$KeySet", name := "<init>", desc := "(Ljava/util/NavigableMap;)V" } : Jvm.MethodName)) ∈ lw_all := lw_g (lw_at lw_m9 222 rfl) rfl
theorem q2306 : (Jvm.Cond.privateMethod ({ cls := "java/util/TreeMap", name := "deleteEntry", desc := "(Ljava/util/TreeMap$Entry;)V" } : Jvm.MethodName)) ∈ lw_tbl := lw_at lw_m10 70 rfl
theorem q2307 : (Jvm.Cond.instanceMethod ({ cls := "java/util/TreeMap", name := "deleteEntry", desc := "(Ljava/util/TreeMap$Entry;)V" } : Jvm.MethodName)) ∈ lw_all := lw_g (lw_at lw_m10 71 rfl) rfl
theorem q2308 : (Jvm.Cond.code ({ cls := "java/util/TreeMap", name := "deleteEntry", desc := "(Ljava/util/TreeMap$Entry;)V" } : Jvm.MethodName) prog_87_method_84_code (3 : Nat) (Option.none : Option Jvm.ClassFile.FieldType)) ∈ lw_all := lw_g (lw_at lw_m10 72 rfl) rfl
theorem q2309 : (Jvm.Cond.methodLink "java/util/TreeMap" (68 : Nat) ({ cls := "java/util/TreeMap", name := "successor", desc := "(Ljava/util/TreeMap$Entry;)Ljava/util/TreeMap$Entry;" } : Jvm.MethodName)) ∈ lw_all := lw_g (lw_at lw_m10 73 rfl) rfl
theorem q2310 : (Jvm.Cond.methodLink "java/util/TreeMap" (317 : Nat) ({ cls := "java/util/TreeMap", name := "fixAfterDeletion", desc := "(Ljava/util/TreeMap$Entry;)V" } : Jvm.MethodName)) ∈ lw_all := lw_g (lw_at lw_m10 74 rfl) rfl
theorem q2311 : (Jvm.Cond.privateMethod ({ cls := "java/util/TreeMap", name := "fixAfterDeletion", desc := "(Ljava/util/TreeMap$Entry;)V" } : Jvm.MethodName)) ∈ lw_tbl := lw_at lw_m10 75 rfl
theorem q2312 : (Jvm.Cond.instanceMethod ({ cls := "java/util/TreeMap", name := "fixAfterDeletion", desc := "(Ljava/util/TreeMap$Entry;)V" } : Jvm.MethodName)) ∈ lw_all := lw_g (lw_at lw_m10 76 rfl) rfl
theorem q2313 : (Jvm.Cond.code ({ cls := "java/util/TreeMap", name := "fixAfterDeletion", desc := "(Ljava/util/TreeMap$Entry;)V" } : Jvm.MethodName) prog_87_method_85_code (3 : Nat) (Option.none : Option Jvm.ClassFile.FieldType)) ∈ lw_all := lw_g (lw_at lw_m10 77 rfl) rfl
theorem q2592 : (Jvm.Cond.instanceMethod ({ cls := "java/util/TreeMap", name := "putAll", desc := "(Ljava/util/Map;)V" } : Jvm.MethodName)) ∈ lw_all := lw_g (lw_at lw_m11 116 rfl) rfl
theorem q2593 : (Jvm.Cond.selects "java/util/TreeMap" ({ cls := "java/util/TreeMap", name := "putAll", desc := "(Ljava/util/Map;)V" } : Jvm.MethodName) ({ cls := "java/util/TreeMap", name := "putAll", desc := "(Ljava/util/Map;)V" } : Jvm.MethodName)) ∈ lw_all := lw_g (lw_at lw_m11 117 rfl) rfl
theorem q2594 : (Jvm.Cond.codeWith ({ cls := "java/util/TreeMap", name := "putAll", desc := "(Ljava/util/Map;)V" } : Jvm.MethodName) prog_87_method_14_code (4 : Nat) (Option.none : Option Jvm.ClassFile.FieldType) [((54 : Nat), (72 : Nat), (75 : Nat), (46 : Nat)), ((54 : Nat), (72 : Nat), (75 : Nat), (48 : Nat))]) ∈ lw_all := lw_g (lw_at lw_m11 118 rfl) rfl
theorem q2595 : (Jvm.Cond.interfaceEntry "java/util/TreeMap" (82 : Nat)) ∈ lw_tbl := lw_at lw_m11 119 rfl
theorem q2596 : (Jvm.Cond.methodLink "java/util/TreeMap" (82 : Nat) ({ cls := "java/util/Map", name := "size", desc := "()I" } : Jvm.MethodName)) ∈ lw_all := lw_g (lw_at lw_m11 120 rfl) rfl
theorem q2605 : (Jvm.Cond.castable "java/util/TreeMap" "java/util/Map") ∈ lw_tbl := lw_at lw_m11 129 rfl
theorem q2606 : (Jvm.Cond.selects "java/util/TreeMap" ({ cls := "java/util/Map", name := "size", desc := "()I" } : Jvm.MethodName) ({ cls := "java/util/TreeMap", name := "size", desc := "()I" } : Jvm.MethodName)) ∈ lw_all := lw_g (lw_at lw_m11 130 rfl) rfl
theorem q2607 : (Jvm.Cond.unhidden "java/util/TreeMap" "size" "()I") ∈ lw_tbl := lw_at lw_m11 131 rfl
theorem q2608 : (Jvm.Cond.instanceMethod ({ cls := "java/util/TreeMap", name := "size", desc := "()I" } : Jvm.MethodName)) ∈ lw_all := lw_g (lw_at lw_m11 132 rfl) rfl
theorem q2609 : (Jvm.Cond.publicMethod ({ cls := "java/util/TreeMap", name := "size", desc := "()I" } : Jvm.MethodName)) ∈ lw_tbl := lw_at lw_m11 133 rfl
theorem q2610 : (Jvm.Cond.code ({ cls := "java/util/TreeMap", name := "size", desc := "()I" } : Jvm.MethodName) prog_87_method_5_code (1 : Nat) (Option.some Jvm.ClassFile.FieldType.int)) ∈ lw_all := lw_g (lw_at lw_m11 134 rfl) rfl
theorem q2611 : (Jvm.Cond.classLink "java/util/TreeMap" (25 : Nat) "java/util/SortedMap") ∈ lw_all := lw_g (lw_at lw_m11 135 rfl) rfl
theorem q2612 : (Jvm.Cond.interfaceEntry "java/util/TreeMap" (24 : Nat)) ∈ lw_tbl := lw_at lw_m11 136 rfl
theorem q2613 : (Jvm.Cond.methodLink "java/util/TreeMap" (24 : Nat) ({ cls := "java/util/SortedMap", name := "comparator", desc := "()Ljava/util/Comparator;" } : Jvm.MethodName)) ∈ lw_all := lw_g (lw_at lw_m11 137 rfl) rfl
theorem q2616 : (Jvm.Cond.castable "java/util/TreeMap" "java/util/SortedMap") ∈ lw_tbl := lw_at lw_m11 140 rfl
theorem q2617 : (Jvm.Cond.selects "java/util/TreeMap" ({ cls := "java/util/SortedMap", name := "comparator", desc := "()Ljava/util/Comparator;" } : Jvm.MethodName) ({ cls := "java/util/TreeMap", name := "comparator", desc := "()Ljava/util/Comparator;" } : Jvm.MethodName)) ∈ lw_all := lw_g (lw_at lw_m11 141 rfl) rfl
theorem q2618 : (Jvm.Cond.unhidden "java/util/TreeMap" "comparator" "()Ljava/util/Comparator;") ∈ lw_tbl := lw_at lw_m11 142 rfl
theorem q2619 : (Jvm.Cond.instanceMethod ({ cls := "java/util/TreeMap", name := "comparator", desc := "()Ljava/util/Comparator;" } : Jvm.MethodName)) ∈ lw_all := lw_g (lw_at lw_m11 143 rfl) rfl
theorem q2620 : (Jvm.Cond.publicMethod ({ cls := "java/util/TreeMap", name := "comparator", desc := "()Ljava/util/Comparator;" } : Jvm.MethodName)) ∈ lw_tbl := lw_at lw_m11 144 rfl
theorem q2621 : (Jvm.Cond.code ({ cls := "java/util/TreeMap", name := "comparator", desc := "()Ljava/util/Comparator;" } : Jvm.MethodName) prog_87_method_9_code (1 : Nat) (Option.some (Jvm.ClassFile.FieldType.object "java/util/Comparator"))) ∈ lw_all := lw_g (lw_at lw_m11 145 rfl) rfl
theorem q2622 : (Jvm.Cond.methodLink "java/util/TreeMap" (85 : Nat) ({ cls := "java/util/Objects", name := "equals", desc := "(Ljava/lang/Object;Ljava/lang/Object;)Z" } : Jvm.MethodName)) ∈ lw_all := lw_g (lw_at lw_m11 146 rfl) rfl
theorem q2626 : (Jvm.Cond.interfaceEntry "java/util/TreeMap" (90 : Nat)) ∈ lw_tbl := lw_at lw_m11 150 rfl
theorem q2627 : (Jvm.Cond.methodLink "java/util/TreeMap" (90 : Nat) ({ cls := "java/util/Map", name := "entrySet", desc := "()Ljava/util/Set;" } : Jvm.MethodName)) ∈ lw_all := lw_g (lw_at lw_m11 151 rfl) rfl
theorem q2645 : (Jvm.Cond.selects "java/util/TreeMap" ({ cls := "java/util/Map", name := "entrySet", desc := "()Ljava/util/Set;" } : Jvm.MethodName) ({ cls := "java/util/TreeMap", name := "entrySet", desc := "()Ljava/util/Set;" } : Jvm.MethodName)) ∈ lw_all := lw_g (lw_at lw_m11 169 rfl) rfl
theorem q2646 : (Jvm.Cond.unhidden "java/util/TreeMap" "entrySet" "()Ljava/util/Set;") ∈ lw_tbl := lw_at lw_m11 170 rfl
theorem q2647 : (Jvm.Cond.instanceMethod ({ cls := "java/util/TreeMap", name := "entrySet", desc := "()Ljava/util/Set;" } : Jvm.MethodName)) ∈ lw_all := lw_g (lw_at lw_m11 171 rfl) rfl
theorem q2648 : (Jvm.Cond.publicMethod ({ cls := "java/util/TreeMap", name := "entrySet", desc := "()Ljava/util/Set;" } : Jvm.MethodName)) ∈ lw_tbl := lw_at lw_m11 172 rfl
theorem q2649 : (Jvm.Cond.code ({ cls := "java/util/TreeMap", name := "entrySet", desc := "()Ljava/util/Set;" } : Jvm.MethodName) prog_87_method_53_code (2 : Nat) (Option.some (Jvm.ClassFile.FieldType.object "java/util/Set"))) ∈ lw_all := lw_g (lw_at lw_m11 173 rfl) rfl
theorem q2650 : (Jvm.Cond.classLink "java/util/TreeMap" (242 : Nat) "java/util/TreeMap$EntrySet") ∈ lw_all := lw_g (lw_at lw_m11 174 rfl) rfl
theorem q2652 : (Jvm.Cond.methodLink "java/util/TreeMap" (244 : Nat) ({ cls := "java/util/TreeMap$EntrySet", name := "<init>", desc := "(Ljava/util/TreeMap;)V" } : Jvm.MethodName)) ∈ lw_all := lw_g (lw_at lw_m11 176 rfl) rfl
theorem q2660 : (Jvm.Cond.interfaceEntry "java/util/TreeMap" (36 : Nat)) ∈ lw_tbl := lw_at lw_m11 184 rfl
theorem q2661 : (Jvm.Cond.methodLink "java/util/TreeMap" (36 : Nat) ({ cls := "java/util/Set", name := "iterator", desc := "()Ljava/util/Iterator;" } : Jvm.MethodName)) ∈ lw_all := lw_g (lw_at lw_m11 185 rfl) rfl
theorem q2662 : (Jvm.Cond.methodLink "java/util/TreeMap" (42 : Nat) ({ cls := "java/util/TreeMap", name := "buildFromSorted", desc := "(ILjava/util/Iterator;Ljava/io/ObjectInputStream;Ljava/lang/Object;)V" } : Jvm.MethodName)) ∈ lw_all := lw_g (lw_at lw_m11 186 rfl) rfl
theorem q2663 : (Jvm.Cond.privateMethod ({ cls := "java/util/TreeMap", name := "buildFromSorted", desc := "(ILjava/util/Iterator;Ljava/io/ObjectInputStream;Ljava/lang/Object;)V" } : Jvm.MethodName)) ∈ lw_tbl := lw_at lw_m11 187 rfl
theorem q2664 : (Jvm.Cond.instanceMethod ({ cls := "java/util/TreeMap", name := "buildFromSorted", desc := "(ILjava/util/Iterator;Ljava/io/ObjectInputStream;Ljava/lang/Object;)V" } : Jvm.MethodName)) ∈ lw_all := lw_g (lw_at lw_m11 188 rfl) rfl
theorem q2665 : (Jvm.Cond.code ({ cls := "java/util/TreeMap", name := "buildFromSorted", desc := "(ILjava/util/Iterator;Ljava/io/ObjectInputStream;Ljava/lang/Object;)V" } : Jvm.MethodName) prog_87_method_90_code (5 : Nat) (Option.none : Option Jvm.ClassFile.FieldType)) ∈ lw_all := lw_g (lw_at lw_m11 189 rfl) rfl
theorem q2666 : (Jvm.Cond.methodLink "java/util/TreeMap" (362 : Nat) ({ cls := "java/util/TreeMap", name := "computeRedLevel", desc := "(I)I" } : Jvm.MethodName)) ∈ lw_all := lw_g (lw_at lw_m11 190 rfl) rfl
theorem q2667 : (Jvm.Cond.static ({ cls := "java/util/TreeMap", name := "computeRedLevel", desc := "(I)I" } : Jvm.MethodName)) ∈ lw_all := lw_g (lw_at lw_m11 191 rfl) rfl
theorem q2668 : (Jvm.Cond.code ({ cls := "java/util/TreeMap", name := "computeRedLevel", desc := "(I)I" } : Jvm.MethodName) prog_87_method_92_code (1 : Nat) (Option.some Jvm.ClassFile.FieldType.int)) ∈ lw_all := lw_g (lw_at lw_m11 192 rfl) rfl
theorem q2669 : (Jvm.Cond.methodLink "java/util/TreeMap" (372 : Nat) ({ cls := "java/lang/Integer", name := "numberOfLeadingZeros", desc := "(I)I" } : Jvm.MethodName)) ∈ lw_all := lw_g (lw_at lw_m11 193 rfl) rfl
theorem q2670 : (Jvm.Cond.methodLink "java/util/TreeMap" (366 : Nat) ({ cls := "java/util/TreeMap", name := "buildFromSorted", desc := "(IIIILjava/util/Iterator;Ljava/io/ObjectInputStream;Ljava/lang/Object;)Ljava/util/TreeMap$Entry;" } : Jvm.MethodName)) ∈ lw_all := lw_g (lw_at lw_m11 194 rfl) rfl
theorem q2671 : (Jvm.Cond.privateMethod ({ cls := "java/util/TreeMap", name := "buildFromSorted", desc := "(IIIILjava/util/Iterator;Ljava/io/ObjectInputStream;Ljava/lang/Object;)Ljava/util/TreeMap$Entry;" } : Jvm.MethodName)) ∈ lw_tbl := lw_at lw_m11 195 rfl
theorem q2672 : (Jvm.Cond.instanceMethod ({ cls := "java/util/TreeMap", name := "buildFromSorted", desc := "(IIIILjava/util/Iterator;Ljava/io/ObjectInputStream;Ljava/lang/Object;)Ljava/util/TreeMap$Entry;" } : Jvm.MethodName)) ∈ lw_all := lw_g (lw_at lw_m11 196 rfl) rfl
theorem q2673 : (Jvm.Cond.code ({ cls := "java/util/TreeMap", name := "buildFromSorted", desc := "(IIIILjava/util/Iterator;Ljava/io/ObjectInputStream;Ljava/lang/Object;)Ljava/util/TreeMap$Entry;" } : Jvm.MethodName) prog_87_method_91_code (14 : Nat) (Option.some (Jvm.ClassFile.FieldType.object "java/util/TreeMap$Entry"))) ∈ lw_all := lw_g (lw_at lw_m11 197 rfl) rfl
theorem q2674 : (Jvm.Cond.interfaceEntry "java/util/TreeMap" (335 : Nat)) ∈ lw_tbl := lw_at lw_m11 198 rfl
theorem q2675 : (Jvm.Cond.methodLink "java/util/TreeMap" (335 : Nat) ({ cls := "java/util/Iterator", name := "next", desc := "()Ljava/lang/Object;" } : Jvm.MethodName)) ∈ lw_all := lw_g (lw_at lw_m11 199 rfl) rfl
theorem q2676 : (Jvm.Cond.classLink "java/util/TreeMap" (338 : Nat) "java/util/Map$Entry") ∈ lw_all := lw_g (lw_at lw_m11 200 rfl) rfl
theorem q2677 : (Jvm.Cond.interfaceEntry "java/util/TreeMap" (340 : Nat)) ∈ lw_tbl := lw_at lw_m11 201 rfl
theorem q2678 : (Jvm.Cond.methodLink "java/util/TreeMap" (340 : Nat) ({ cls := "java/util/Map$Entry", name := "getKey", desc := "()Ljava/lang/Object;" } : Jvm.MethodName)) ∈ lw_all := lw_g (lw_at lw_m11 202 rfl) rfl
theorem q2696 : (Jvm.Cond.interfaceEntry "java/util/TreeMap" (347 : Nat)) ∈ lw_tbl := lw_at lw_m11 220 rfl
theorem q2697 : (Jvm.Cond.methodLink "java/util/TreeMap" (347 : Nat) ({ cls := "java/util/Map$Entry", name := "getValue", desc := "()Ljava/lang/Object;" } : Jvm.MethodName)) ∈ lw_all := lw_g (lw_at lw_m11 221 rfl) rfl
theorem q2712 : (Jvm.Cond.methodLink "java/util/TreeMap" (91 : Nat) ({ cls := "java/util/AbstractMap", name := "putAll", desc := "(Ljava/util/Map;)V" } : Jvm.MethodName)) ∈ lw_all := lw_g (lw_at lw_m11 236 rfl) rfl
theorem q2732 : (Jvm.Cond.selects "java/util/TreeMap" ({ cls := "java/util/AbstractMap", name := "put", desc := "(Ljava/lang/Object;Ljava/lang/Object;)Ljava/lang/Object;" } : Jvm.MethodName) ({ cls := "java/util/TreeMap", name := "put", desc := "(Ljava/lang/Object;Ljava/lang/Object;)Ljava/lang/Object;" } : Jvm.MethodName)) ∈ lw_all := lw_g (lw_at lw_m12 16 rfl) rfl
theorem q2903 : (Jvm.Cond.instanceMethod ({ cls := "java/util/TreeMap", name := "remove", desc := "(Ljava/lang/Object;)Ljava/lang/Object;" } : Jvm.MethodName)) ∈ lw_all := lw_g (lw_at lw_m12 187 rfl) rfl
theorem q2904 : (Jvm.Cond.selects "java/util/TreeMap" ({ cls := "java/util/TreeMap", name := "remove", desc := "(Ljava/lang/Object;)Ljava/lang/Object;" } : Jvm.MethodName) ({ cls := "java/util/TreeMap", name := "remove", desc := "(Ljava/lang/Object;)Ljava/lang/Object;" } : Jvm.MethodName)) ∈ lw_all := lw_g (lw_at lw_m12 188 rfl) rfl
theorem q2905 : (Jvm.Cond.code ({ cls := "java/util/TreeMap", name := "remove", desc := "(Ljava/lang/Object;)Ljava/lang/Object;" } : Jvm.MethodName) prog_87_method_34_code (4 : Nat) (Option.some (Jvm.ClassFile.FieldType.object "java/lang/Object"))) ∈ lw_all := lw_g (lw_at lw_m12 189 rfl) rfl
theorem q2906 : (Jvm.Cond.methodLink "java/util/TreeMap" (174 : Nat) ({ cls := "java/util/TreeMap", name := "deleteEntry", desc := "(Ljava/util/TreeMap$Entry;)V" } : Jvm.MethodName)) ∈ lw_all := lw_g (lw_at lw_m12 190 rfl) rfl
theorem q3686 : (Jvm.Cond.castable "java/util/TreeMap" "java/lang/Object") ∈ lw_tbl := lw_at lw_m16 10 rfl
theorem in_J10 : ∀ w ∈ wsJ100, w ∈ lw_all := lw_in wsJ100 [1891, 1892, 1877, 1879, 1881, 1883, 1885, 1887, 1889] (by decide +kernel) (by decide +kernel)
/-! jdk/internal/util/ArraysSupport -/
def RJ11 : String := "jdk/internal/util/ArraysSupport"
abbrev cJ11_newLength : ByteArray := prog_100_method_27_code
def yJ11_newLength : MethodName := ⟨RJ11, "newLength", "(III)I"⟩
def dkwJ11_newLength_1 : List UInt8 := [184, 0, 201, 172]
abbrev dktJ11_newLength_1 : List UInt8 := dkwJ11_newLength_1 ++ []
def dkwJ11_newLength_0 : List UInt8 := [26, 27, 28, 184, 0, 194, 96, 62, 3, 29, 162, 0, 11, 29, 18, 200, 163, 0, 5, 29, 172, 26, 27]
abbrev dktJ11_newLength_0 : List UInt8 := dkwJ11_newLength_0 ++ dktJ11_newLength_1
theorem dksJ11_newLength_0 : cJ11_newLength.data.toList.drop 0 = dktJ11_newLength_0 := by decide +kernel
theorem dksJ11_newLength_1 : cJ11_newLength.data.toList.drop 23 = dktJ11_newLength_1 := dk_seg dksJ11_newLength_0 23 rfl rfl
theorem dJ11_newLength_0 : decode cJ11_newLength 0 = .ok (.iload_n 0, 1) := dk_26 (dk_at dksJ11_newLength_0 0 rfl rfl)
theorem dJ11_newLength_1 : decode cJ11_newLength 1 = .ok (.iload_n 1, 1) := dk_27 (dk_at dksJ11_newLength_0 1 rfl rfl)
theorem dJ11_newLength_2 : decode cJ11_newLength 2 = .ok (.iload_n 2, 1) := dk_28 (dk_at dksJ11_newLength_0 2 rfl rfl)
theorem dJ11_newLength_3 : decode cJ11_newLength 3 = .ok (.invokestatic 194, 3) := dk_184 0 194 (dk_at dksJ11_newLength_0 3 rfl rfl)
theorem dJ11_newLength_6 : decode cJ11_newLength 6 = .ok (.iadd, 1) := dk_96 (dk_at dksJ11_newLength_0 6 rfl rfl)
theorem dJ11_newLength_7 : decode cJ11_newLength 7 = .ok (.istore_n 3, 1) := dk_62 (dk_at dksJ11_newLength_0 7 rfl rfl)
theorem dJ11_newLength_8 : decode cJ11_newLength 8 = .ok (.iconst 0, 1) := dk_3 (dk_at dksJ11_newLength_0 8 rfl rfl)
theorem dJ11_newLength_9 : decode cJ11_newLength 9 = .ok (.iload_n 3, 1) := dk_29 (dk_at dksJ11_newLength_0 9 rfl rfl)
theorem dJ11_newLength_10 : decode cJ11_newLength 10 = .ok (.if_icmp .ge 11, 3) := dk_162 0 11 (dk_at dksJ11_newLength_0 10 rfl rfl)
theorem dJ11_newLength_13 : decode cJ11_newLength 13 = .ok (.iload_n 3, 1) := dk_29 (dk_at dksJ11_newLength_0 13 rfl rfl)
theorem dJ11_newLength_14 : decode cJ11_newLength 14 = .ok (.ldc 200, 2) := dk_18 200 (dk_at dksJ11_newLength_0 14 rfl rfl)
theorem dJ11_newLength_16 : decode cJ11_newLength 16 = .ok (.if_icmp .gt 5, 3) := dk_163 0 5 (dk_at dksJ11_newLength_0 16 rfl rfl)
theorem dJ11_newLength_19 : decode cJ11_newLength 19 = .ok (.iload_n 3, 1) := dk_29 (dk_at dksJ11_newLength_0 19 rfl rfl)
theorem dJ11_newLength_20 : decode cJ11_newLength 20 = .ok (.ireturn, 1) := dk_172 (dk_at dksJ11_newLength_0 20 rfl rfl)
theorem dJ11_newLength_21 : decode cJ11_newLength 21 = .ok (.iload_n 0, 1) := dk_26 (dk_at dksJ11_newLength_0 21 rfl rfl)
theorem dJ11_newLength_22 : decode cJ11_newLength 22 = .ok (.iload_n 1, 1) := dk_27 (dk_at dksJ11_newLength_0 22 rfl rfl)
theorem dJ11_newLength_23 : decode cJ11_newLength 23 = .ok (.invokestatic 201, 3) := dk_184 0 201 (dk_at dksJ11_newLength_1 0 rfl rfl)
theorem dJ11_newLength_26 : decode cJ11_newLength 26 = .ok (.ireturn, 1) := dk_172 (dk_at dksJ11_newLength_1 3 rfl rfl)
abbrev cJ11_hugeLength : ByteArray := prog_100_method_28_code
def yJ11_hugeLength : MethodName := ⟨RJ11, "hugeLength", "(II)I"⟩
def dkwJ11_hugeLength_2 : List UInt8 := [191, 28, 18, 200, 163, 0, 6, 18, 200, 172, 28, 172]
abbrev dktJ11_hugeLength_2 : List UInt8 := dkwJ11_hugeLength_2 ++ []
def dkwJ11_hugeLength_1 : List UInt8 := [26, 182, 0, 98, 18, 208, 182, 0, 94, 27, 182, 0, 98, 18, 210, 182, 0, 94, 182, 0, 101, 183, 0, 212]
abbrev dktJ11_hugeLength_1 : List UInt8 := dkwJ11_hugeLength_1 ++ dktJ11_hugeLength_2
def dkwJ11_hugeLength_0 : List UInt8 := [26, 27, 96, 61, 28, 156, 0, 44, 187, 0, 204, 89, 187, 0, 89, 89, 183, 0, 91, 18, 206, 182, 0, 94]
abbrev dktJ11_hugeLength_0 : List UInt8 := dkwJ11_hugeLength_0 ++ dktJ11_hugeLength_1
theorem dksJ11_hugeLength_0 : cJ11_hugeLength.data.toList.drop 0 = dktJ11_hugeLength_0 := by decide +kernel
theorem dksJ11_hugeLength_1 : cJ11_hugeLength.data.toList.drop 24 = dktJ11_hugeLength_1 := dk_seg dksJ11_hugeLength_0 24 rfl rfl
theorem dksJ11_hugeLength_2 : cJ11_hugeLength.data.toList.drop 48 = dktJ11_hugeLength_2 := dk_seg dksJ11_hugeLength_1 24 rfl rfl
theorem dJ11_hugeLength_0 : decode cJ11_hugeLength 0 = .ok (.iload_n 0, 1) := dk_26 (dk_at dksJ11_hugeLength_0 0 rfl rfl)
theorem dJ11_hugeLength_1 : decode cJ11_hugeLength 1 = .ok (.iload_n 1, 1) := dk_27 (dk_at dksJ11_hugeLength_0 1 rfl rfl)
theorem dJ11_hugeLength_2 : decode cJ11_hugeLength 2 = .ok (.iadd, 1) := dk_96 (dk_at dksJ11_hugeLength_0 2 rfl rfl)
theorem dJ11_hugeLength_3 : decode cJ11_hugeLength 3 = .ok (.istore_n 2, 1) := dk_61 (dk_at dksJ11_hugeLength_0 3 rfl rfl)
theorem dJ11_hugeLength_4 : decode cJ11_hugeLength 4 = .ok (.iload_n 2, 1) := dk_28 (dk_at dksJ11_hugeLength_0 4 rfl rfl)
theorem dJ11_hugeLength_5 : decode cJ11_hugeLength 5 = .ok (.ifCond .ge 44, 3) := dk_156 0 44 (dk_at dksJ11_hugeLength_0 5 rfl rfl)
theorem dJ11_hugeLength_8 : decode cJ11_hugeLength 8 = .ok (.new 204, 3) := dk_187 0 204 (dk_at dksJ11_hugeLength_0 8 rfl rfl)
theorem dJ11_hugeLength_11 : decode cJ11_hugeLength 11 = .ok (.dup, 1) := dk_89 (dk_at dksJ11_hugeLength_0 11 rfl rfl)
theorem dJ11_hugeLength_12 : decode cJ11_hugeLength 12 = .ok (.new 89, 3) := dk_187 0 89 (dk_at dksJ11_hugeLength_0 12 rfl rfl)
theorem dJ11_hugeLength_15 : decode cJ11_hugeLength 15 = .ok (.dup, 1) := dk_89 (dk_at dksJ11_hugeLength_0 15 rfl rfl)
theorem dJ11_hugeLength_16 : decode cJ11_hugeLength 16 = .ok (.invokespecial 91, 3) := dk_183 0 91 (dk_at dksJ11_hugeLength_0 16 rfl rfl)
theorem dJ11_hugeLength_19 : decode cJ11_hugeLength 19 = .ok (.ldc 206, 2) := dk_18 206 (dk_at dksJ11_hugeLength_0 19 rfl rfl)
theorem dJ11_hugeLength_21 : decode cJ11_hugeLength 21 = .ok (.invokevirtual 94, 3) := dk_182 0 94 (dk_at dksJ11_hugeLength_0 21 rfl rfl)
theorem dJ11_hugeLength_24 : decode cJ11_hugeLength 24 = .ok (.iload_n 0, 1) := dk_26 (dk_at dksJ11_hugeLength_1 0 rfl rfl)
theorem dJ11_hugeLength_25 : decode cJ11_hugeLength 25 = .ok (.invokevirtual 98, 3) := dk_182 0 98 (dk_at dksJ11_hugeLength_1 1 rfl rfl)
theorem dJ11_hugeLength_28 : decode cJ11_hugeLength 28 = .ok (.ldc 208, 2) := dk_18 208 (dk_at dksJ11_hugeLength_1 4 rfl rfl)
theorem dJ11_hugeLength_30 : decode cJ11_hugeLength 30 = .ok (.invokevirtual 94, 3) := dk_182 0 94 (dk_at dksJ11_hugeLength_1 6 rfl rfl)
theorem dJ11_hugeLength_33 : decode cJ11_hugeLength 33 = .ok (.iload_n 1, 1) := dk_27 (dk_at dksJ11_hugeLength_1 9 rfl rfl)
theorem dJ11_hugeLength_34 : decode cJ11_hugeLength 34 = .ok (.invokevirtual 98, 3) := dk_182 0 98 (dk_at dksJ11_hugeLength_1 10 rfl rfl)
theorem dJ11_hugeLength_37 : decode cJ11_hugeLength 37 = .ok (.ldc 210, 2) := dk_18 210 (dk_at dksJ11_hugeLength_1 13 rfl rfl)
theorem dJ11_hugeLength_39 : decode cJ11_hugeLength 39 = .ok (.invokevirtual 94, 3) := dk_182 0 94 (dk_at dksJ11_hugeLength_1 15 rfl rfl)
theorem dJ11_hugeLength_42 : decode cJ11_hugeLength 42 = .ok (.invokevirtual 101, 3) := dk_182 0 101 (dk_at dksJ11_hugeLength_1 18 rfl rfl)
theorem dJ11_hugeLength_45 : decode cJ11_hugeLength 45 = .ok (.invokespecial 212, 3) := dk_183 0 212 (dk_at dksJ11_hugeLength_1 21 rfl rfl)
theorem dJ11_hugeLength_48 : decode cJ11_hugeLength 48 = .ok (.athrow, 1) := dk_191 (dk_at dksJ11_hugeLength_2 0 rfl rfl)
theorem dJ11_hugeLength_49 : decode cJ11_hugeLength 49 = .ok (.iload_n 2, 1) := dk_28 (dk_at dksJ11_hugeLength_2 1 rfl rfl)
theorem dJ11_hugeLength_50 : decode cJ11_hugeLength 50 = .ok (.ldc 200, 2) := dk_18 200 (dk_at dksJ11_hugeLength_2 2 rfl rfl)
theorem dJ11_hugeLength_52 : decode cJ11_hugeLength 52 = .ok (.if_icmp .gt 6, 3) := dk_163 0 6 (dk_at dksJ11_hugeLength_2 4 rfl rfl)
theorem dJ11_hugeLength_55 : decode cJ11_hugeLength 55 = .ok (.ldc 200, 2) := dk_18 200 (dk_at dksJ11_hugeLength_2 7 rfl rfl)
theorem dJ11_hugeLength_57 : decode cJ11_hugeLength 57 = .ok (.ireturn, 1) := dk_172 (dk_at dksJ11_hugeLength_2 9 rfl rfl)
theorem dJ11_hugeLength_58 : decode cJ11_hugeLength 58 = .ok (.iload_n 2, 1) := dk_28 (dk_at dksJ11_hugeLength_2 10 rfl rfl)
theorem dJ11_hugeLength_59 : decode cJ11_hugeLength 59 = .ok (.ireturn, 1) := dk_172 (dk_at dksJ11_hugeLength_2 11 rfl rfl)
abbrev cJ11_vectorizedHashCode : ByteArray := prog_100_method_4_code
def yJ11_vectorizedHashCode : MethodName := ⟨RJ11, "vectorizedHashCode", "(Ljava/lang/Object;IIII)I"⟩
def dkwJ11_vectorizedHashCode_6 : List UInt8 := [183, 0, 91, 18, 92, 182, 0, 94, 21, 4, 182, 0, 98, 182, 0, 101, 183, 0, 105, 191, 172]
abbrev dktJ11_vectorizedHashCode_6 : List UInt8 := dkwJ11_vectorizedHashCode_6 ++ []
def dkwJ11_vectorizedHashCode_5 : List UInt8 := [167, 0, 44, 29, 42, 192, 0, 82, 27, 28, 184, 0, 84, 167, 0, 31, 187, 0, 87, 89, 187, 0, 89, 89]
abbrev dktJ11_vectorizedHashCode_5 : List UInt8 := dkwJ11_vectorizedHashCode_5 ++ dktJ11_vectorizedHashCode_6
def dkwJ11_vectorizedHashCode_4 : List UInt8 := [29, 42, 192, 0, 60, 27, 28, 184, 0, 75, 167, 0, 57, 29, 42, 192, 0, 77, 27, 28, 184, 0, 79]
abbrev dktJ11_vectorizedHashCode_4 : List UInt8 := dkwJ11_vectorizedHashCode_4 ++ dktJ11_vectorizedHashCode_5
def dkwJ11_vectorizedHashCode_3 : List UInt8 := [192, 0, 60, 27, 28, 184, 0, 66, 167, 0, 83, 29, 42, 192, 0, 69, 27, 28, 184, 0, 71, 167, 0, 70]
abbrev dktJ11_vectorizedHashCode_3 : List UInt8 := dkwJ11_vectorizedHashCode_3 ++ dktJ11_vectorizedHashCode_4
def dkwJ11_vectorizedHashCode_2 : List UInt8 := [29, 42, 192, 0, 60, 27, 28, 184, 0, 62, 167, 0, 103, 42, 193, 0, 60, 153, 0, 16, 29, 42]
abbrev dktJ11_vectorizedHashCode_2 : List UInt8 := dkwJ11_vectorizedHashCode_2 ++ dktJ11_vectorizedHashCode_3
def dkwJ11_vectorizedHashCode_1 : List UInt8 := [170, 0, 0, 0, 0, 127, 0, 0, 0, 4, 0, 0, 0, 10, 0, 0, 0, 42, 0, 0, 0, 55, 0, 0, 0, 127, 0, 0, 0, 127, 0, 0, 0, 88, 0, 0, 0, 101, 0, 0, 0, 114]
abbrev dktJ11_vectorizedHashCode_1 : List UInt8 := dkwJ11_vectorizedHashCode_1 ++ dktJ11_vectorizedHashCode_2
def dkwJ11_vectorizedHashCode_0 : List UInt8 := [21, 4]
abbrev dktJ11_vectorizedHashCode_0 : List UInt8 := dkwJ11_vectorizedHashCode_0 ++ dktJ11_vectorizedHashCode_1
theorem dksJ11_vectorizedHashCode_0 : cJ11_vectorizedHashCode.data.toList.drop 0 = dktJ11_vectorizedHashCode_0 := by decide +kernel
theorem dksJ11_vectorizedHashCode_1 : cJ11_vectorizedHashCode.data.toList.drop 2 = dktJ11_vectorizedHashCode_1 := dk_seg dksJ11_vectorizedHashCode_0 2 rfl rfl
theorem dksJ11_vectorizedHashCode_2 : cJ11_vectorizedHashCode.data.toList.drop 44 = dktJ11_vectorizedHashCode_2 := dk_seg dksJ11_vectorizedHashCode_1 42 rfl rfl
theorem dksJ11_vectorizedHashCode_3 : cJ11_vectorizedHashCode.data.toList.drop 66 = dktJ11_vectorizedHashCode_3 := dk_seg dksJ11_vectorizedHashCode_2 22 rfl rfl
theorem dksJ11_vectorizedHashCode_4 : cJ11_vectorizedHashCode.data.toList.drop 90 = dktJ11_vectorizedHashCode_4 := dk_seg dksJ11_vectorizedHashCode_3 24 rfl rfl
theorem dksJ11_vectorizedHashCode_5 : cJ11_vectorizedHashCode.data.toList.drop 113 = dktJ11_vectorizedHashCode_5 := dk_seg dksJ11_vectorizedHashCode_4 23 rfl rfl
theorem dksJ11_vectorizedHashCode_6 : cJ11_vectorizedHashCode.data.toList.drop 137 = dktJ11_vectorizedHashCode_6 := dk_seg dksJ11_vectorizedHashCode_5 24 rfl rfl
theorem dJ11_vectorizedHashCode_0 : decode cJ11_vectorizedHashCode 0 = .ok (.iload 4, 2) := dk_21 4 (dk_at dksJ11_vectorizedHashCode_0 0 rfl rfl)
theorem dJ11_vectorizedHashCode_2 : decode cJ11_vectorizedHashCode 2 = .ok (.tableswitch 127 4 10 #[42, 55, 127, 127, 88, 101, 114], 42) := by decide +kernel
theorem dJ11_vectorizedHashCode_44 : decode cJ11_vectorizedHashCode 44 = .ok (.iload_n 3, 1) := dk_29 (dk_at dksJ11_vectorizedHashCode_2 0 rfl rfl)
theorem dJ11_vectorizedHashCode_45 : decode cJ11_vectorizedHashCode 45 = .ok (.aload_n 0, 1) := dk_42 (dk_at dksJ11_vectorizedHashCode_2 1 rfl rfl)
theorem dJ11_vectorizedHashCode_46 : decode cJ11_vectorizedHashCode 46 = .ok (.checkcast 60, 3) := dk_192 0 60 (dk_at dksJ11_vectorizedHashCode_2 2 rfl rfl)
theorem dJ11_vectorizedHashCode_49 : decode cJ11_vectorizedHashCode 49 = .ok (.iload_n 1, 1) := dk_27 (dk_at dksJ11_vectorizedHashCode_2 5 rfl rfl)
theorem dJ11_vectorizedHashCode_50 : decode cJ11_vectorizedHashCode 50 = .ok (.iload_n 2, 1) := dk_28 (dk_at dksJ11_vectorizedHashCode_2 6 rfl rfl)
theorem dJ11_vectorizedHashCode_51 : decode cJ11_vectorizedHashCode 51 = .ok (.invokestatic 62, 3) := dk_184 0 62 (dk_at dksJ11_vectorizedHashCode_2 7 rfl rfl)
theorem dJ11_vectorizedHashCode_54 : decode cJ11_vectorizedHashCode 54 = .ok (.goto 103, 3) := dk_167 0 103 (dk_at dksJ11_vectorizedHashCode_2 10 rfl rfl)
theorem dJ11_vectorizedHashCode_57 : decode cJ11_vectorizedHashCode 57 = .ok (.aload_n 0, 1) := dk_42 (dk_at dksJ11_vectorizedHashCode_2 13 rfl rfl)
theorem dJ11_vectorizedHashCode_58 : decode cJ11_vectorizedHashCode 58 = .ok (.instanceof 60, 3) := dk_193 0 60 (dk_at dksJ11_vectorizedHashCode_2 14 rfl rfl)
theorem dJ11_vectorizedHashCode_61 : decode cJ11_vectorizedHashCode 61 = .ok (.ifCond .eq 16, 3) := dk_153 0 16 (dk_at dksJ11_vectorizedHashCode_2 17 rfl rfl)
theorem dJ11_vectorizedHashCode_64 : decode cJ11_vectorizedHashCode 64 = .ok (.iload_n 3, 1) := dk_29 (dk_at dksJ11_vectorizedHashCode_2 20 rfl rfl)
theorem dJ11_vectorizedHashCode_65 : decode cJ11_vectorizedHashCode 65 = .ok (.aload_n 0, 1) := dk_42 (dk_at dksJ11_vectorizedHashCode_2 21 rfl rfl)
theorem dJ11_vectorizedHashCode_66 : decode cJ11_vectorizedHashCode 66 = .ok (.checkcast 60, 3) := dk_192 0 60 (dk_at dksJ11_vectorizedHashCode_3 0 rfl rfl)
theorem dJ11_vectorizedHashCode_69 : decode cJ11_vectorizedHashCode 69 = .ok (.iload_n 1, 1) := dk_27 (dk_at dksJ11_vectorizedHashCode_3 3 rfl rfl)
theorem dJ11_vectorizedHashCode_70 : decode cJ11_vectorizedHashCode 70 = .ok (.iload_n 2, 1) := dk_28 (dk_at dksJ11_vectorizedHashCode_3 4 rfl rfl)
theorem dJ11_vectorizedHashCode_71 : decode cJ11_vectorizedHashCode 71 = .ok (.invokestatic 66, 3) := dk_184 0 66 (dk_at dksJ11_vectorizedHashCode_3 5 rfl rfl)
theorem dJ11_vectorizedHashCode_74 : decode cJ11_vectorizedHashCode 74 = .ok (.goto 83, 3) := dk_167 0 83 (dk_at dksJ11_vectorizedHashCode_3 8 rfl rfl)
theorem dJ11_vectorizedHashCode_77 : decode cJ11_vectorizedHashCode 77 = .ok (.iload_n 3, 1) := dk_29 (dk_at dksJ11_vectorizedHashCode_3 11 rfl rfl)
theorem dJ11_vectorizedHashCode_78 : decode cJ11_vectorizedHashCode 78 = .ok (.aload_n 0, 1) := dk_42 (dk_at dksJ11_vectorizedHashCode_3 12 rfl rfl)
theorem dJ11_vectorizedHashCode_79 : decode cJ11_vectorizedHashCode 79 = .ok (.checkcast 69, 3) := dk_192 0 69 (dk_at dksJ11_vectorizedHashCode_3 13 rfl rfl)
theorem dJ11_vectorizedHashCode_82 : decode cJ11_vectorizedHashCode 82 = .ok (.iload_n 1, 1) := dk_27 (dk_at dksJ11_vectorizedHashCode_3 16 rfl rfl)
theorem dJ11_vectorizedHashCode_83 : decode cJ11_vectorizedHashCode 83 = .ok (.iload_n 2, 1) := dk_28 (dk_at dksJ11_vectorizedHashCode_3 17 rfl rfl)
theorem dJ11_vectorizedHashCode_84 : decode cJ11_vectorizedHashCode 84 = .ok (.invokestatic 71, 3) := dk_184 0 71 (dk_at dksJ11_vectorizedHashCode_3 18 rfl rfl)
theorem dJ11_vectorizedHashCode_87 : decode cJ11_vectorizedHashCode 87 = .ok (.goto 70, 3) := dk_167 0 70 (dk_at dksJ11_vectorizedHashCode_3 21 rfl rfl)
theorem dJ11_vectorizedHashCode_90 : decode cJ11_vectorizedHashCode 90 = .ok (.iload_n 3, 1) := dk_29 (dk_at dksJ11_vectorizedHashCode_4 0 rfl rfl)
theorem dJ11_vectorizedHashCode_91 : decode cJ11_vectorizedHashCode 91 = .ok (.aload_n 0, 1) := dk_42 (dk_at dksJ11_vectorizedHashCode_4 1 rfl rfl)
theorem dJ11_vectorizedHashCode_92 : decode cJ11_vectorizedHashCode 92 = .ok (.checkcast 60, 3) := dk_192 0 60 (dk_at dksJ11_vectorizedHashCode_4 2 rfl rfl)
theorem dJ11_vectorizedHashCode_95 : decode cJ11_vectorizedHashCode 95 = .ok (.iload_n 1, 1) := dk_27 (dk_at dksJ11_vectorizedHashCode_4 5 rfl rfl)
theorem dJ11_vectorizedHashCode_96 : decode cJ11_vectorizedHashCode 96 = .ok (.iload_n 2, 1) := dk_28 (dk_at dksJ11_vectorizedHashCode_4 6 rfl rfl)
theorem dJ11_vectorizedHashCode_97 : decode cJ11_vectorizedHashCode 97 = .ok (.invokestatic 75, 3) := dk_184 0 75 (dk_at dksJ11_vectorizedHashCode_4 7 rfl rfl)
theorem dJ11_vectorizedHashCode_100 : decode cJ11_vectorizedHashCode 100 = .ok (.goto 57, 3) := dk_167 0 57 (dk_at dksJ11_vectorizedHashCode_4 10 rfl rfl)
theorem dJ11_vectorizedHashCode_103 : decode cJ11_vectorizedHashCode 103 = .ok (.iload_n 3, 1) := dk_29 (dk_at dksJ11_vectorizedHashCode_4 13 rfl rfl)
theorem dJ11_vectorizedHashCode_104 : decode cJ11_vectorizedHashCode 104 = .ok (.aload_n 0, 1) := dk_42 (dk_at dksJ11_vectorizedHashCode_4 14 rfl rfl)
theorem dJ11_vectorizedHashCode_105 : decode cJ11_vectorizedHashCode 105 = .ok (.checkcast 77, 3) := dk_192 0 77 (dk_at dksJ11_vectorizedHashCode_4 15 rfl rfl)
theorem dJ11_vectorizedHashCode_108 : decode cJ11_vectorizedHashCode 108 = .ok (.iload_n 1, 1) := dk_27 (dk_at dksJ11_vectorizedHashCode_4 18 rfl rfl)
theorem dJ11_vectorizedHashCode_109 : decode cJ11_vectorizedHashCode 109 = .ok (.iload_n 2, 1) := dk_28 (dk_at dksJ11_vectorizedHashCode_4 19 rfl rfl)
theorem dJ11_vectorizedHashCode_110 : decode cJ11_vectorizedHashCode 110 = .ok (.invokestatic 79, 3) := dk_184 0 79 (dk_at dksJ11_vectorizedHashCode_4 20 rfl rfl)
theorem dJ11_vectorizedHashCode_113 : decode cJ11_vectorizedHashCode 113 = .ok (.goto 44, 3) := dk_167 0 44 (dk_at dksJ11_vectorizedHashCode_5 0 rfl rfl)
theorem dJ11_vectorizedHashCode_116 : decode cJ11_vectorizedHashCode 116 = .ok (.iload_n 3, 1) := dk_29 (dk_at dksJ11_vectorizedHashCode_5 3 rfl rfl)
theorem dJ11_vectorizedHashCode_117 : decode cJ11_vectorizedHashCode 117 = .ok (.aload_n 0, 1) := dk_42 (dk_at dksJ11_vectorizedHashCode_5 4 rfl rfl)
theorem dJ11_vectorizedHashCode_118 : decode cJ11_vectorizedHashCode 118 = .ok (.checkcast 82, 3) := dk_192 0 82 (dk_at dksJ11_vectorizedHashCode_5 5 rfl rfl)
theorem dJ11_vectorizedHashCode_121 : decode cJ11_vectorizedHashCode 121 = .ok (.iload_n 1, 1) := dk_27 (dk_at dksJ11_vectorizedHashCode_5 8 rfl rfl)
theorem dJ11_vectorizedHashCode_122 : decode cJ11_vectorizedHashCode 122 = .ok (.iload_n 2, 1) := dk_28 (dk_at dksJ11_vectorizedHashCode_5 9 rfl rfl)
theorem dJ11_vectorizedHashCode_123 : decode cJ11_vectorizedHashCode 123 = .ok (.invokestatic 84, 3) := dk_184 0 84 (dk_at dksJ11_vectorizedHashCode_5 10 rfl rfl)
theorem dJ11_vectorizedHashCode_126 : decode cJ11_vectorizedHashCode 126 = .ok (.goto 31, 3) := dk_167 0 31 (dk_at dksJ11_vectorizedHashCode_5 13 rfl rfl)
theorem dJ11_vectorizedHashCode_129 : decode cJ11_vectorizedHashCode 129 = .ok (.new 87, 3) := dk_187 0 87 (dk_at dksJ11_vectorizedHashCode_5 16 rfl rfl)
theorem dJ11_vectorizedHashCode_132 : decode cJ11_vectorizedHashCode 132 = .ok (.dup, 1) := dk_89 (dk_at dksJ11_vectorizedHashCode_5 19 rfl rfl)
theorem dJ11_vectorizedHashCode_133 : decode cJ11_vectorizedHashCode 133 = .ok (.new 89, 3) := dk_187 0 89 (dk_at dksJ11_vectorizedHashCode_5 20 rfl rfl)
theorem dJ11_vectorizedHashCode_136 : decode cJ11_vectorizedHashCode 136 = .ok (.dup, 1) := dk_89 (dk_at dksJ11_vectorizedHashCode_5 23 rfl rfl)
theorem dJ11_vectorizedHashCode_137 : decode cJ11_vectorizedHashCode 137 = .ok (.invokespecial 91, 3) := dk_183 0 91 (dk_at dksJ11_vectorizedHashCode_6 0 rfl rfl)
theorem dJ11_vectorizedHashCode_140 : decode cJ11_vectorizedHashCode 140 = .ok (.ldc 92, 2) := dk_18 92 (dk_at dksJ11_vectorizedHashCode_6 3 rfl rfl)
theorem dJ11_vectorizedHashCode_142 : decode cJ11_vectorizedHashCode 142 = .ok (.invokevirtual 94, 3) := dk_182 0 94 (dk_at dksJ11_vectorizedHashCode_6 5 rfl rfl)
theorem dJ11_vectorizedHashCode_145 : decode cJ11_vectorizedHashCode 145 = .ok (.iload 4, 2) := dk_21 4 (dk_at dksJ11_vectorizedHashCode_6 8 rfl rfl)
theorem dJ11_vectorizedHashCode_147 : decode cJ11_vectorizedHashCode 147 = .ok (.invokevirtual 98, 3) := dk_182 0 98 (dk_at dksJ11_vectorizedHashCode_6 10 rfl rfl)
theorem dJ11_vectorizedHashCode_150 : decode cJ11_vectorizedHashCode 150 = .ok (.invokevirtual 101, 3) := dk_182 0 101 (dk_at dksJ11_vectorizedHashCode_6 13 rfl rfl)
theorem dJ11_vectorizedHashCode_153 : decode cJ11_vectorizedHashCode 153 = .ok (.invokespecial 105, 3) := dk_183 0 105 (dk_at dksJ11_vectorizedHashCode_6 16 rfl rfl)
theorem dJ11_vectorizedHashCode_156 : decode cJ11_vectorizedHashCode 156 = .ok (.athrow, 1) := dk_191 (dk_at dksJ11_vectorizedHashCode_6 19 rfl rfl)
theorem dJ11_vectorizedHashCode_157 : decode cJ11_vectorizedHashCode 157 = .ok (.ireturn, 1) := dk_172 (dk_at dksJ11_vectorizedHashCode_6 20 rfl rfl)
abbrev cJ11_signedHashCode : ByteArray := prog_100_method_5_code
def yJ11_signedHashCode : MethodName := ⟨RJ11, "signedHashCode", "(I[BII)I"⟩
def dkwJ11_signedHashCode_1 : List UInt8 := [17, 0, 255, 126, 96, 59, 132, 5, 1, 167, 255, 232, 26, 172]
abbrev dktJ11_signedHashCode_1 : List UInt8 := dkwJ11_signedHashCode_1 ++ []
def dkwJ11_signedHashCode_0 : List UInt8 := [28, 29, 96, 54, 4, 28, 54, 5, 21, 5, 21, 4, 162, 0, 23, 16, 31, 26, 104, 43, 21, 5, 51]
abbrev dktJ11_signedHashCode_0 : List UInt8 := dkwJ11_signedHashCode_0 ++ dktJ11_signedHashCode_1
theorem dksJ11_signedHashCode_0 : cJ11_signedHashCode.data.toList.drop 0 = dktJ11_signedHashCode_0 := by decide +kernel
theorem dksJ11_signedHashCode_1 : cJ11_signedHashCode.data.toList.drop 23 = dktJ11_signedHashCode_1 := dk_seg dksJ11_signedHashCode_0 23 rfl rfl
theorem dJ11_signedHashCode_0 : decode cJ11_signedHashCode 0 = .ok (.iload_n 2, 1) := dk_28 (dk_at dksJ11_signedHashCode_0 0 rfl rfl)
theorem dJ11_signedHashCode_1 : decode cJ11_signedHashCode 1 = .ok (.iload_n 3, 1) := dk_29 (dk_at dksJ11_signedHashCode_0 1 rfl rfl)
theorem dJ11_signedHashCode_2 : decode cJ11_signedHashCode 2 = .ok (.iadd, 1) := dk_96 (dk_at dksJ11_signedHashCode_0 2 rfl rfl)
theorem dJ11_signedHashCode_3 : decode cJ11_signedHashCode 3 = .ok (.istore 4, 2) := dk_54 4 (dk_at dksJ11_signedHashCode_0 3 rfl rfl)
theorem dJ11_signedHashCode_5 : decode cJ11_signedHashCode 5 = .ok (.iload_n 2, 1) := dk_28 (dk_at dksJ11_signedHashCode_0 5 rfl rfl)
theorem dJ11_signedHashCode_6 : decode cJ11_signedHashCode 6 = .ok (.istore 5, 2) := dk_54 5 (dk_at dksJ11_signedHashCode_0 6 rfl rfl)
theorem dJ11_signedHashCode_8 : decode cJ11_signedHashCode 8 = .ok (.iload 5, 2) := dk_21 5 (dk_at dksJ11_signedHashCode_0 8 rfl rfl)
theorem dJ11_signedHashCode_10 : decode cJ11_signedHashCode 10 = .ok (.iload 4, 2) := dk_21 4 (dk_at dksJ11_signedHashCode_0 10 rfl rfl)
theorem dJ11_signedHashCode_12 : decode cJ11_signedHashCode 12 = .ok (.if_icmp .ge 23, 3) := dk_162 0 23 (dk_at dksJ11_signedHashCode_0 12 rfl rfl)
theorem dJ11_signedHashCode_15 : decode cJ11_signedHashCode 15 = .ok (.bipush 31, 2) := dk_16 31 (dk_at dksJ11_signedHashCode_0 15 rfl rfl)
theorem dJ11_signedHashCode_17 : decode cJ11_signedHashCode 17 = .ok (.iload_n 0, 1) := dk_26 (dk_at dksJ11_signedHashCode_0 17 rfl rfl)
theorem dJ11_signedHashCode_18 : decode cJ11_signedHashCode 18 = .ok (.imul, 1) := dk_104 (dk_at dksJ11_signedHashCode_0 18 rfl rfl)
theorem dJ11_signedHashCode_19 : decode cJ11_signedHashCode 19 = .ok (.aload_n 1, 1) := dk_43 (dk_at dksJ11_signedHashCode_0 19 rfl rfl)
theorem dJ11_signedHashCode_20 : decode cJ11_signedHashCode 20 = .ok (.iload 5, 2) := dk_21 5 (dk_at dksJ11_signedHashCode_0 20 rfl rfl)
theorem dJ11_signedHashCode_22 : decode cJ11_signedHashCode 22 = .ok (.baload, 1) := dk_51 (dk_at dksJ11_signedHashCode_0 22 rfl rfl)
theorem dJ11_signedHashCode_23 : decode cJ11_signedHashCode 23 = .ok (.sipush 255, 3) := dk_17 0 255 (dk_at dksJ11_signedHashCode_1 0 rfl rfl)
theorem dJ11_signedHashCode_26 : decode cJ11_signedHashCode 26 = .ok (.iand, 1) := dk_126 (dk_at dksJ11_signedHashCode_1 3 rfl rfl)
theorem dJ11_signedHashCode_27 : decode cJ11_signedHashCode 27 = .ok (.iadd, 1) := dk_96 (dk_at dksJ11_signedHashCode_1 4 rfl rfl)
theorem dJ11_signedHashCode_28 : decode cJ11_signedHashCode 28 = .ok (.istore_n 0, 1) := dk_59 (dk_at dksJ11_signedHashCode_1 5 rfl rfl)
theorem dJ11_signedHashCode_29 : decode cJ11_signedHashCode 29 = .ok (.iinc 5 1, 3) := dk_132 5 1 (dk_at dksJ11_signedHashCode_1 6 rfl rfl)
theorem dJ11_signedHashCode_32 : decode cJ11_signedHashCode 32 = .ok (.goto (-24), 3) := dk_167 255 232 (dk_at dksJ11_signedHashCode_1 9 rfl rfl)
theorem dJ11_signedHashCode_35 : decode cJ11_signedHashCode 35 = .ok (.iload_n 0, 1) := dk_26 (dk_at dksJ11_signedHashCode_1 12 rfl rfl)
theorem dJ11_signedHashCode_36 : decode cJ11_signedHashCode 36 = .ok (.ireturn, 1) := dk_172 (dk_at dksJ11_signedHashCode_1 13 rfl rfl)
abbrev cJ11_utf16hashCode : ByteArray := prog_100_method_10_code
def yJ11_utf16hashCode : MethodName := ⟨RJ11, "utf16hashCode", "(I[BII)I"⟩
def dkwJ11_utf16hashCode_1 : List UInt8 := [21, 5, 185, 0, 110, 3, 0, 96, 59, 132, 5, 1, 167, 255, 229, 26, 172]
abbrev dktJ11_utf16hashCode_1 : List UInt8 := dkwJ11_utf16hashCode_1 ++ []
def dkwJ11_utf16hashCode_0 : List UInt8 := [28, 29, 96, 54, 4, 28, 54, 5, 21, 5, 21, 4, 162, 0, 26, 16, 31, 26, 104, 178, 0, 106, 43]
abbrev dktJ11_utf16hashCode_0 : List UInt8 := dkwJ11_utf16hashCode_0 ++ dktJ11_utf16hashCode_1
theorem dksJ11_utf16hashCode_0 : cJ11_utf16hashCode.data.toList.drop 0 = dktJ11_utf16hashCode_0 := by decide +kernel
theorem dksJ11_utf16hashCode_1 : cJ11_utf16hashCode.data.toList.drop 23 = dktJ11_utf16hashCode_1 := dk_seg dksJ11_utf16hashCode_0 23 rfl rfl
theorem dJ11_utf16hashCode_0 : decode cJ11_utf16hashCode 0 = .ok (.iload_n 2, 1) := dk_28 (dk_at dksJ11_utf16hashCode_0 0 rfl rfl)
theorem dJ11_utf16hashCode_1 : decode cJ11_utf16hashCode 1 = .ok (.iload_n 3, 1) := dk_29 (dk_at dksJ11_utf16hashCode_0 1 rfl rfl)
theorem dJ11_utf16hashCode_2 : decode cJ11_utf16hashCode 2 = .ok (.iadd, 1) := dk_96 (dk_at dksJ11_utf16hashCode_0 2 rfl rfl)
theorem dJ11_utf16hashCode_3 : decode cJ11_utf16hashCode 3 = .ok (.istore 4, 2) := dk_54 4 (dk_at dksJ11_utf16hashCode_0 3 rfl rfl)
theorem dJ11_utf16hashCode_5 : decode cJ11_utf16hashCode 5 = .ok (.iload_n 2, 1) := dk_28 (dk_at dksJ11_utf16hashCode_0 5 rfl rfl)
theorem dJ11_utf16hashCode_6 : decode cJ11_utf16hashCode 6 = .ok (.istore 5, 2) := dk_54 5 (dk_at dksJ11_utf16hashCode_0 6 rfl rfl)
theorem dJ11_utf16hashCode_8 : decode cJ11_utf16hashCode 8 = .ok (.iload 5, 2) := dk_21 5 (dk_at dksJ11_utf16hashCode_0 8 rfl rfl)
theorem dJ11_utf16hashCode_10 : decode cJ11_utf16hashCode 10 = .ok (.iload 4, 2) := dk_21 4 (dk_at dksJ11_utf16hashCode_0 10 rfl rfl)
theorem dJ11_utf16hashCode_12 : decode cJ11_utf16hashCode 12 = .ok (.if_icmp .ge 26, 3) := dk_162 0 26 (dk_at dksJ11_utf16hashCode_0 12 rfl rfl)
theorem dJ11_utf16hashCode_15 : decode cJ11_utf16hashCode 15 = .ok (.bipush 31, 2) := dk_16 31 (dk_at dksJ11_utf16hashCode_0 15 rfl rfl)
theorem dJ11_utf16hashCode_17 : decode cJ11_utf16hashCode 17 = .ok (.iload_n 0, 1) := dk_26 (dk_at dksJ11_utf16hashCode_0 17 rfl rfl)
theorem dJ11_utf16hashCode_18 : decode cJ11_utf16hashCode 18 = .ok (.imul, 1) := dk_104 (dk_at dksJ11_utf16hashCode_0 18 rfl rfl)
theorem dJ11_utf16hashCode_19 : decode cJ11_utf16hashCode 19 = .ok (.getstatic 106, 3) := dk_178 0 106 (dk_at dksJ11_utf16hashCode_0 19 rfl rfl)
theorem dJ11_utf16hashCode_22 : decode cJ11_utf16hashCode 22 = .ok (.aload_n 1, 1) := dk_43 (dk_at dksJ11_utf16hashCode_0 22 rfl rfl)
theorem dJ11_utf16hashCode_23 : decode cJ11_utf16hashCode 23 = .ok (.iload 5, 2) := dk_21 5 (dk_at dksJ11_utf16hashCode_1 0 rfl rfl)
theorem dJ11_utf16hashCode_25 : decode cJ11_utf16hashCode 25 = .ok (.invokeinterface 110 3, 5) := by decide +kernel
theorem dJ11_utf16hashCode_30 : decode cJ11_utf16hashCode 30 = .ok (.iadd, 1) := dk_96 (dk_at dksJ11_utf16hashCode_1 7 rfl rfl)
theorem dJ11_utf16hashCode_31 : decode cJ11_utf16hashCode 31 = .ok (.istore_n 0, 1) := dk_59 (dk_at dksJ11_utf16hashCode_1 8 rfl rfl)
theorem dJ11_utf16hashCode_32 : decode cJ11_utf16hashCode 32 = .ok (.iinc 5 1, 3) := dk_132 5 1 (dk_at dksJ11_utf16hashCode_1 9 rfl rfl)
theorem dJ11_utf16hashCode_35 : decode cJ11_utf16hashCode 35 = .ok (.goto (-27), 3) := dk_167 255 229 (dk_at dksJ11_utf16hashCode_1 12 rfl rfl)
theorem dJ11_utf16hashCode_38 : decode cJ11_utf16hashCode 38 = .ok (.iload_n 0, 1) := dk_26 (dk_at dksJ11_utf16hashCode_1 15 rfl rfl)
theorem dJ11_utf16hashCode_39 : decode cJ11_utf16hashCode 39 = .ok (.ireturn, 1) := dk_172 (dk_at dksJ11_utf16hashCode_1 16 rfl rfl)
abbrev cJ11_hashCode : ByteArray := prog_100_method_7_code
def yJ11_hashCode : MethodName := ⟨RJ11, "hashCode", "(I[CII)I"⟩
def dkwJ11_hashCode_1 : List UInt8 := [59, 132, 5, 1, 167, 255, 236, 26, 172]
abbrev dktJ11_hashCode_1 : List UInt8 := dkwJ11_hashCode_1 ++ []
def dkwJ11_hashCode_0 : List UInt8 := [28, 29, 96, 54, 4, 28, 54, 5, 21, 5, 21, 4, 162, 0, 19, 16, 31, 26, 104, 43, 21, 5, 52, 96]
abbrev dktJ11_hashCode_0 : List UInt8 := dkwJ11_hashCode_0 ++ dktJ11_hashCode_1
theorem dksJ11_hashCode_0 : cJ11_hashCode.data.toList.drop 0 = dktJ11_hashCode_0 := by decide +kernel
theorem dksJ11_hashCode_1 : cJ11_hashCode.data.toList.drop 24 = dktJ11_hashCode_1 := dk_seg dksJ11_hashCode_0 24 rfl rfl
theorem dJ11_hashCode_0 : decode cJ11_hashCode 0 = .ok (.iload_n 2, 1) := dk_28 (dk_at dksJ11_hashCode_0 0 rfl rfl)
theorem dJ11_hashCode_1 : decode cJ11_hashCode 1 = .ok (.iload_n 3, 1) := dk_29 (dk_at dksJ11_hashCode_0 1 rfl rfl)
theorem dJ11_hashCode_2 : decode cJ11_hashCode 2 = .ok (.iadd, 1) := dk_96 (dk_at dksJ11_hashCode_0 2 rfl rfl)
theorem dJ11_hashCode_3 : decode cJ11_hashCode 3 = .ok (.istore 4, 2) := dk_54 4 (dk_at dksJ11_hashCode_0 3 rfl rfl)
theorem dJ11_hashCode_5 : decode cJ11_hashCode 5 = .ok (.iload_n 2, 1) := dk_28 (dk_at dksJ11_hashCode_0 5 rfl rfl)
theorem dJ11_hashCode_6 : decode cJ11_hashCode 6 = .ok (.istore 5, 2) := dk_54 5 (dk_at dksJ11_hashCode_0 6 rfl rfl)
theorem dJ11_hashCode_8 : decode cJ11_hashCode 8 = .ok (.iload 5, 2) := dk_21 5 (dk_at dksJ11_hashCode_0 8 rfl rfl)
theorem dJ11_hashCode_10 : decode cJ11_hashCode 10 = .ok (.iload 4, 2) := dk_21 4 (dk_at dksJ11_hashCode_0 10 rfl rfl)
theorem dJ11_hashCode_12 : decode cJ11_hashCode 12 = .ok (.if_icmp .ge 19, 3) := dk_162 0 19 (dk_at dksJ11_hashCode_0 12 rfl rfl)
theorem dJ11_hashCode_15 : decode cJ11_hashCode 15 = .ok (.bipush 31, 2) := dk_16 31 (dk_at dksJ11_hashCode_0 15 rfl rfl)
theorem dJ11_hashCode_17 : decode cJ11_hashCode 17 = .ok (.iload_n 0, 1) := dk_26 (dk_at dksJ11_hashCode_0 17 rfl rfl)
theorem dJ11_hashCode_18 : decode cJ11_hashCode 18 = .ok (.imul, 1) := dk_104 (dk_at dksJ11_hashCode_0 18 rfl rfl)
theorem dJ11_hashCode_19 : decode cJ11_hashCode 19 = .ok (.aload_n 1, 1) := dk_43 (dk_at dksJ11_hashCode_0 19 rfl rfl)
theorem dJ11_hashCode_20 : decode cJ11_hashCode 20 = .ok (.iload 5, 2) := dk_21 5 (dk_at dksJ11_hashCode_0 20 rfl rfl)
theorem dJ11_hashCode_22 : decode cJ11_hashCode 22 = .ok (.caload, 1) := dk_52 (dk_at dksJ11_hashCode_0 22 rfl rfl)
theorem dJ11_hashCode_23 : decode cJ11_hashCode 23 = .ok (.iadd, 1) := dk_96 (dk_at dksJ11_hashCode_0 23 rfl rfl)
theorem dJ11_hashCode_24 : decode cJ11_hashCode 24 = .ok (.istore_n 0, 1) := dk_59 (dk_at dksJ11_hashCode_1 0 rfl rfl)
theorem dJ11_hashCode_25 : decode cJ11_hashCode 25 = .ok (.iinc 5 1, 3) := dk_132 5 1 (dk_at dksJ11_hashCode_1 1 rfl rfl)
theorem dJ11_hashCode_28 : decode cJ11_hashCode 28 = .ok (.goto (-20), 3) := dk_167 255 236 (dk_at dksJ11_hashCode_1 4 rfl rfl)
theorem dJ11_hashCode_31 : decode cJ11_hashCode 31 = .ok (.iload_n 0, 1) := dk_26 (dk_at dksJ11_hashCode_1 7 rfl rfl)
theorem dJ11_hashCode_32 : decode cJ11_hashCode 32 = .ok (.ireturn, 1) := dk_172 (dk_at dksJ11_hashCode_1 8 rfl rfl)
abbrev cJ11_hashCode_2 : ByteArray := prog_100_method_6_code
def yJ11_hashCode_2 : MethodName := ⟨RJ11, "hashCode", "(I[BII)I"⟩
def dkwJ11_hashCode_2_1 : List UInt8 := [59, 132, 5, 1, 167, 255, 236, 26, 172]
abbrev dktJ11_hashCode_2_1 : List UInt8 := dkwJ11_hashCode_2_1 ++ []
def dkwJ11_hashCode_2_0 : List UInt8 := [28, 29, 96, 54, 4, 28, 54, 5, 21, 5, 21, 4, 162, 0, 19, 16, 31, 26, 104, 43, 21, 5, 51, 96]
abbrev dktJ11_hashCode_2_0 : List UInt8 := dkwJ11_hashCode_2_0 ++ dktJ11_hashCode_2_1
theorem dksJ11_hashCode_2_0 : cJ11_hashCode_2.data.toList.drop 0 = dktJ11_hashCode_2_0 := by decide +kernel
theorem dksJ11_hashCode_2_1 : cJ11_hashCode_2.data.toList.drop 24 = dktJ11_hashCode_2_1 := dk_seg dksJ11_hashCode_2_0 24 rfl rfl
theorem dJ11_hashCode_2_0 : decode cJ11_hashCode_2 0 = .ok (.iload_n 2, 1) := dk_28 (dk_at dksJ11_hashCode_2_0 0 rfl rfl)
theorem dJ11_hashCode_2_1 : decode cJ11_hashCode_2 1 = .ok (.iload_n 3, 1) := dk_29 (dk_at dksJ11_hashCode_2_0 1 rfl rfl)
theorem dJ11_hashCode_2_2 : decode cJ11_hashCode_2 2 = .ok (.iadd, 1) := dk_96 (dk_at dksJ11_hashCode_2_0 2 rfl rfl)
theorem dJ11_hashCode_2_3 : decode cJ11_hashCode_2 3 = .ok (.istore 4, 2) := dk_54 4 (dk_at dksJ11_hashCode_2_0 3 rfl rfl)
theorem dJ11_hashCode_2_5 : decode cJ11_hashCode_2 5 = .ok (.iload_n 2, 1) := dk_28 (dk_at dksJ11_hashCode_2_0 5 rfl rfl)
theorem dJ11_hashCode_2_6 : decode cJ11_hashCode_2 6 = .ok (.istore 5, 2) := dk_54 5 (dk_at dksJ11_hashCode_2_0 6 rfl rfl)
theorem dJ11_hashCode_2_8 : decode cJ11_hashCode_2 8 = .ok (.iload 5, 2) := dk_21 5 (dk_at dksJ11_hashCode_2_0 8 rfl rfl)
theorem dJ11_hashCode_2_10 : decode cJ11_hashCode_2 10 = .ok (.iload 4, 2) := dk_21 4 (dk_at dksJ11_hashCode_2_0 10 rfl rfl)
theorem dJ11_hashCode_2_12 : decode cJ11_hashCode_2 12 = .ok (.if_icmp .ge 19, 3) := dk_162 0 19 (dk_at dksJ11_hashCode_2_0 12 rfl rfl)
theorem dJ11_hashCode_2_15 : decode cJ11_hashCode_2 15 = .ok (.bipush 31, 2) := dk_16 31 (dk_at dksJ11_hashCode_2_0 15 rfl rfl)
theorem dJ11_hashCode_2_17 : decode cJ11_hashCode_2 17 = .ok (.iload_n 0, 1) := dk_26 (dk_at dksJ11_hashCode_2_0 17 rfl rfl)
theorem dJ11_hashCode_2_18 : decode cJ11_hashCode_2 18 = .ok (.imul, 1) := dk_104 (dk_at dksJ11_hashCode_2_0 18 rfl rfl)
theorem dJ11_hashCode_2_19 : decode cJ11_hashCode_2 19 = .ok (.aload_n 1, 1) := dk_43 (dk_at dksJ11_hashCode_2_0 19 rfl rfl)
theorem dJ11_hashCode_2_20 : decode cJ11_hashCode_2 20 = .ok (.iload 5, 2) := dk_21 5 (dk_at dksJ11_hashCode_2_0 20 rfl rfl)
theorem dJ11_hashCode_2_22 : decode cJ11_hashCode_2 22 = .ok (.baload, 1) := dk_51 (dk_at dksJ11_hashCode_2_0 22 rfl rfl)
theorem dJ11_hashCode_2_23 : decode cJ11_hashCode_2 23 = .ok (.iadd, 1) := dk_96 (dk_at dksJ11_hashCode_2_0 23 rfl rfl)
theorem dJ11_hashCode_2_24 : decode cJ11_hashCode_2 24 = .ok (.istore_n 0, 1) := dk_59 (dk_at dksJ11_hashCode_2_1 0 rfl rfl)
theorem dJ11_hashCode_2_25 : decode cJ11_hashCode_2 25 = .ok (.iinc 5 1, 3) := dk_132 5 1 (dk_at dksJ11_hashCode_2_1 1 rfl rfl)
theorem dJ11_hashCode_2_28 : decode cJ11_hashCode_2 28 = .ok (.goto (-20), 3) := dk_167 255 236 (dk_at dksJ11_hashCode_2_1 4 rfl rfl)
theorem dJ11_hashCode_2_31 : decode cJ11_hashCode_2 31 = .ok (.iload_n 0, 1) := dk_26 (dk_at dksJ11_hashCode_2_1 7 rfl rfl)
theorem dJ11_hashCode_2_32 : decode cJ11_hashCode_2 32 = .ok (.ireturn, 1) := dk_172 (dk_at dksJ11_hashCode_2_1 8 rfl rfl)
abbrev cJ11_hashCode_3 : ByteArray := prog_100_method_8_code
def yJ11_hashCode_3 : MethodName := ⟨RJ11, "hashCode", "(I[SII)I"⟩
def dkwJ11_hashCode_3_1 : List UInt8 := [59, 132, 5, 1, 167, 255, 236, 26, 172]
abbrev dktJ11_hashCode_3_1 : List UInt8 := dkwJ11_hashCode_3_1 ++ []
def dkwJ11_hashCode_3_0 : List UInt8 := [28, 29, 96, 54, 4, 28, 54, 5, 21, 5, 21, 4, 162, 0, 19, 16, 31, 26, 104, 43, 21, 5, 53, 96]
abbrev dktJ11_hashCode_3_0 : List UInt8 := dkwJ11_hashCode_3_0 ++ dktJ11_hashCode_3_1
theorem dksJ11_hashCode_3_0 : cJ11_hashCode_3.data.toList.drop 0 = dktJ11_hashCode_3_0 := by decide +kernel
theorem dksJ11_hashCode_3_1 : cJ11_hashCode_3.data.toList.drop 24 = dktJ11_hashCode_3_1 := dk_seg dksJ11_hashCode_3_0 24 rfl rfl
theorem dJ11_hashCode_3_0 : decode cJ11_hashCode_3 0 = .ok (.iload_n 2, 1) := dk_28 (dk_at dksJ11_hashCode_3_0 0 rfl rfl)
theorem dJ11_hashCode_3_1 : decode cJ11_hashCode_3 1 = .ok (.iload_n 3, 1) := dk_29 (dk_at dksJ11_hashCode_3_0 1 rfl rfl)
theorem dJ11_hashCode_3_2 : decode cJ11_hashCode_3 2 = .ok (.iadd, 1) := dk_96 (dk_at dksJ11_hashCode_3_0 2 rfl rfl)
theorem dJ11_hashCode_3_3 : decode cJ11_hashCode_3 3 = .ok (.istore 4, 2) := dk_54 4 (dk_at dksJ11_hashCode_3_0 3 rfl rfl)
theorem dJ11_hashCode_3_5 : decode cJ11_hashCode_3 5 = .ok (.iload_n 2, 1) := dk_28 (dk_at dksJ11_hashCode_3_0 5 rfl rfl)
theorem dJ11_hashCode_3_6 : decode cJ11_hashCode_3 6 = .ok (.istore 5, 2) := dk_54 5 (dk_at dksJ11_hashCode_3_0 6 rfl rfl)
theorem dJ11_hashCode_3_8 : decode cJ11_hashCode_3 8 = .ok (.iload 5, 2) := dk_21 5 (dk_at dksJ11_hashCode_3_0 8 rfl rfl)
theorem dJ11_hashCode_3_10 : decode cJ11_hashCode_3 10 = .ok (.iload 4, 2) := dk_21 4 (dk_at dksJ11_hashCode_3_0 10 rfl rfl)
theorem dJ11_hashCode_3_12 : decode cJ11_hashCode_3 12 = .ok (.if_icmp .ge 19, 3) := dk_162 0 19 (dk_at dksJ11_hashCode_3_0 12 rfl rfl)
theorem dJ11_hashCode_3_15 : decode cJ11_hashCode_3 15 = .ok (.bipush 31, 2) := dk_16 31 (dk_at dksJ11_hashCode_3_0 15 rfl rfl)
theorem dJ11_hashCode_3_17 : decode cJ11_hashCode_3 17 = .ok (.iload_n 0, 1) := dk_26 (dk_at dksJ11_hashCode_3_0 17 rfl rfl)
theorem dJ11_hashCode_3_18 : decode cJ11_hashCode_3 18 = .ok (.imul, 1) := dk_104 (dk_at dksJ11_hashCode_3_0 18 rfl rfl)
theorem dJ11_hashCode_3_19 : decode cJ11_hashCode_3 19 = .ok (.aload_n 1, 1) := dk_43 (dk_at dksJ11_hashCode_3_0 19 rfl rfl)
theorem dJ11_hashCode_3_20 : decode cJ11_hashCode_3 20 = .ok (.iload 5, 2) := dk_21 5 (dk_at dksJ11_hashCode_3_0 20 rfl rfl)
theorem dJ11_hashCode_3_22 : decode cJ11_hashCode_3 22 = .ok (.saload, 1) := dk_53 (dk_at dksJ11_hashCode_3_0 22 rfl rfl)
theorem dJ11_hashCode_3_23 : decode cJ11_hashCode_3 23 = .ok (.iadd, 1) := dk_96 (dk_at dksJ11_hashCode_3_0 23 rfl rfl)
theorem dJ11_hashCode_3_24 : decode cJ11_hashCode_3 24 = .ok (.istore_n 0, 1) := dk_59 (dk_at dksJ11_hashCode_3_1 0 rfl rfl)
theorem dJ11_hashCode_3_25 : decode cJ11_hashCode_3 25 = .ok (.iinc 5 1, 3) := dk_132 5 1 (dk_at dksJ11_hashCode_3_1 1 rfl rfl)
theorem dJ11_hashCode_3_28 : decode cJ11_hashCode_3 28 = .ok (.goto (-20), 3) := dk_167 255 236 (dk_at dksJ11_hashCode_3_1 4 rfl rfl)
theorem dJ11_hashCode_3_31 : decode cJ11_hashCode_3 31 = .ok (.iload_n 0, 1) := dk_26 (dk_at dksJ11_hashCode_3_1 7 rfl rfl)
theorem dJ11_hashCode_3_32 : decode cJ11_hashCode_3 32 = .ok (.ireturn, 1) := dk_172 (dk_at dksJ11_hashCode_3_1 8 rfl rfl)
abbrev cJ11_hashCode_4 : ByteArray := prog_100_method_9_code
def yJ11_hashCode_4 : MethodName := ⟨RJ11, "hashCode", "(I[III)I"⟩
def dkwJ11_hashCode_4_1 : List UInt8 := [59, 132, 5, 1, 167, 255, 236, 26, 172]
abbrev dktJ11_hashCode_4_1 : List UInt8 := dkwJ11_hashCode_4_1 ++ []
def dkwJ11_hashCode_4_0 : List UInt8 := [28, 29, 96, 54, 4, 28, 54, 5, 21, 5, 21, 4, 162, 0, 19, 16, 31, 26, 104, 43, 21, 5, 46, 96]
abbrev dktJ11_hashCode_4_0 : List UInt8 := dkwJ11_hashCode_4_0 ++ dktJ11_hashCode_4_1
theorem dksJ11_hashCode_4_0 : cJ11_hashCode_4.data.toList.drop 0 = dktJ11_hashCode_4_0 := by decide +kernel
theorem dksJ11_hashCode_4_1 : cJ11_hashCode_4.data.toList.drop 24 = dktJ11_hashCode_4_1 := dk_seg dksJ11_hashCode_4_0 24 rfl rfl
theorem dJ11_hashCode_4_0 : decode cJ11_hashCode_4 0 = .ok (.iload_n 2, 1) := dk_28 (dk_at dksJ11_hashCode_4_0 0 rfl rfl)
theorem dJ11_hashCode_4_1 : decode cJ11_hashCode_4 1 = .ok (.iload_n 3, 1) := dk_29 (dk_at dksJ11_hashCode_4_0 1 rfl rfl)
theorem dJ11_hashCode_4_2 : decode cJ11_hashCode_4 2 = .ok (.iadd, 1) := dk_96 (dk_at dksJ11_hashCode_4_0 2 rfl rfl)
theorem dJ11_hashCode_4_3 : decode cJ11_hashCode_4 3 = .ok (.istore 4, 2) := dk_54 4 (dk_at dksJ11_hashCode_4_0 3 rfl rfl)
theorem dJ11_hashCode_4_5 : decode cJ11_hashCode_4 5 = .ok (.iload_n 2, 1) := dk_28 (dk_at dksJ11_hashCode_4_0 5 rfl rfl)
theorem dJ11_hashCode_4_6 : decode cJ11_hashCode_4 6 = .ok (.istore 5, 2) := dk_54 5 (dk_at dksJ11_hashCode_4_0 6 rfl rfl)
theorem dJ11_hashCode_4_8 : decode cJ11_hashCode_4 8 = .ok (.iload 5, 2) := dk_21 5 (dk_at dksJ11_hashCode_4_0 8 rfl rfl)
theorem dJ11_hashCode_4_10 : decode cJ11_hashCode_4 10 = .ok (.iload 4, 2) := dk_21 4 (dk_at dksJ11_hashCode_4_0 10 rfl rfl)
theorem dJ11_hashCode_4_12 : decode cJ11_hashCode_4 12 = .ok (.if_icmp .ge 19, 3) := dk_162 0 19 (dk_at dksJ11_hashCode_4_0 12 rfl rfl)
theorem dJ11_hashCode_4_15 : decode cJ11_hashCode_4 15 = .ok (.bipush 31, 2) := dk_16 31 (dk_at dksJ11_hashCode_4_0 15 rfl rfl)
theorem dJ11_hashCode_4_17 : decode cJ11_hashCode_4 17 = .ok (.iload_n 0, 1) := dk_26 (dk_at dksJ11_hashCode_4_0 17 rfl rfl)
theorem dJ11_hashCode_4_18 : decode cJ11_hashCode_4 18 = .ok (.imul, 1) := dk_104 (dk_at dksJ11_hashCode_4_0 18 rfl rfl)
theorem dJ11_hashCode_4_19 : decode cJ11_hashCode_4 19 = .ok (.aload_n 1, 1) := dk_43 (dk_at dksJ11_hashCode_4_0 19 rfl rfl)
theorem dJ11_hashCode_4_20 : decode cJ11_hashCode_4 20 = .ok (.iload 5, 2) := dk_21 5 (dk_at dksJ11_hashCode_4_0 20 rfl rfl)
theorem dJ11_hashCode_4_22 : decode cJ11_hashCode_4 22 = .ok (.iaload, 1) := dk_46 (dk_at dksJ11_hashCode_4_0 22 rfl rfl)
theorem dJ11_hashCode_4_23 : decode cJ11_hashCode_4 23 = .ok (.iadd, 1) := dk_96 (dk_at dksJ11_hashCode_4_0 23 rfl rfl)
theorem dJ11_hashCode_4_24 : decode cJ11_hashCode_4 24 = .ok (.istore_n 0, 1) := dk_59 (dk_at dksJ11_hashCode_4_1 0 rfl rfl)
theorem dJ11_hashCode_4_25 : decode cJ11_hashCode_4 25 = .ok (.iinc 5 1, 3) := dk_132 5 1 (dk_at dksJ11_hashCode_4_1 1 rfl rfl)
theorem dJ11_hashCode_4_28 : decode cJ11_hashCode_4 28 = .ok (.goto (-20), 3) := dk_167 255 236 (dk_at dksJ11_hashCode_4_1 4 rfl rfl)
theorem dJ11_hashCode_4_31 : decode cJ11_hashCode_4 31 = .ok (.iload_n 0, 1) := dk_26 (dk_at dksJ11_hashCode_4_1 7 rfl rfl)
theorem dJ11_hashCode_4_32 : decode cJ11_hashCode_4 32 = .ok (.ireturn, 1) := dk_172 (dk_at dksJ11_hashCode_4_1 8 rfl rfl)
abbrev cJ11_mismatch : ByteArray := prog_100_method_13_code
def yJ11_mismatch : MethodName := ⟨RJ11, "mismatch", "([B[BI)I"⟩
def dkwJ11_mismatch_3 : List UInt8 := [172]
abbrev dktJ11_mismatch_3 : List UInt8 := dkwJ11_mismatch_3 ++ []
def dkwJ11_mismatch_2 : List UInt8 := [62, 29, 28, 162, 0, 20, 42, 29, 51, 43, 29, 51, 159, 0, 5, 29, 172, 132, 3, 1, 167, 255, 237, 2]
abbrev dktJ11_mismatch_2 : List UInt8 := dkwJ11_mismatch_2 ++ dktJ11_mismatch_3
def dkwJ11_mismatch_1 : List UInt8 := [43, 178, 0, 126, 133, 28, 178, 0, 129, 184, 0, 122, 62, 29, 155, 0, 5, 29, 172, 28, 29, 2, 130, 100]
abbrev dktJ11_mismatch_1 : List UInt8 := dkwJ11_mismatch_1 ++ dktJ11_mismatch_2
def dkwJ11_mismatch_0 : List UInt8 := [3, 62, 28, 16, 7, 164, 0, 44, 42, 3, 51, 43, 3, 51, 159, 0, 5, 3, 172, 42, 178, 0, 126, 133]
abbrev dktJ11_mismatch_0 : List UInt8 := dkwJ11_mismatch_0 ++ dktJ11_mismatch_1
theorem dksJ11_mismatch_0 : cJ11_mismatch.data.toList.drop 0 = dktJ11_mismatch_0 := by decide +kernel
theorem dksJ11_mismatch_1 : cJ11_mismatch.data.toList.drop 24 = dktJ11_mismatch_1 := dk_seg dksJ11_mismatch_0 24 rfl rfl
theorem dksJ11_mismatch_2 : cJ11_mismatch.data.toList.drop 48 = dktJ11_mismatch_2 := dk_seg dksJ11_mismatch_1 24 rfl rfl
theorem dksJ11_mismatch_3 : cJ11_mismatch.data.toList.drop 72 = dktJ11_mismatch_3 := dk_seg dksJ11_mismatch_2 24 rfl rfl
theorem dJ11_mismatch_0 : decode cJ11_mismatch 0 = .ok (.iconst 0, 1) := dk_3 (dk_at dksJ11_mismatch_0 0 rfl rfl)
theorem dJ11_mismatch_1 : decode cJ11_mismatch 1 = .ok (.istore_n 3, 1) := dk_62 (dk_at dksJ11_mismatch_0 1 rfl rfl)
theorem dJ11_mismatch_2 : decode cJ11_mismatch 2 = .ok (.iload_n 2, 1) := dk_28 (dk_at dksJ11_mismatch_0 2 rfl rfl)
theorem dJ11_mismatch_3 : decode cJ11_mismatch 3 = .ok (.bipush 7, 2) := dk_16 7 (dk_at dksJ11_mismatch_0 3 rfl rfl)
theorem dJ11_mismatch_5 : decode cJ11_mismatch 5 = .ok (.if_icmp .le 44, 3) := dk_164 0 44 (dk_at dksJ11_mismatch_0 5 rfl rfl)
theorem dJ11_mismatch_8 : decode cJ11_mismatch 8 = .ok (.aload_n 0, 1) := dk_42 (dk_at dksJ11_mismatch_0 8 rfl rfl)
theorem dJ11_mismatch_9 : decode cJ11_mismatch 9 = .ok (.iconst 0, 1) := dk_3 (dk_at dksJ11_mismatch_0 9 rfl rfl)
theorem dJ11_mismatch_10 : decode cJ11_mismatch 10 = .ok (.baload, 1) := dk_51 (dk_at dksJ11_mismatch_0 10 rfl rfl)
theorem dJ11_mismatch_11 : decode cJ11_mismatch 11 = .ok (.aload_n 1, 1) := dk_43 (dk_at dksJ11_mismatch_0 11 rfl rfl)
theorem dJ11_mismatch_12 : decode cJ11_mismatch 12 = .ok (.iconst 0, 1) := dk_3 (dk_at dksJ11_mismatch_0 12 rfl rfl)
theorem dJ11_mismatch_13 : decode cJ11_mismatch 13 = .ok (.baload, 1) := dk_51 (dk_at dksJ11_mismatch_0 13 rfl rfl)
theorem dJ11_mismatch_14 : decode cJ11_mismatch 14 = .ok (.if_icmp .eq 5, 3) := dk_159 0 5 (dk_at dksJ11_mismatch_0 14 rfl rfl)
theorem dJ11_mismatch_17 : decode cJ11_mismatch 17 = .ok (.iconst 0, 1) := dk_3 (dk_at dksJ11_mismatch_0 17 rfl rfl)
theorem dJ11_mismatch_18 : decode cJ11_mismatch 18 = .ok (.ireturn, 1) := dk_172 (dk_at dksJ11_mismatch_0 18 rfl rfl)
theorem dJ11_mismatch_19 : decode cJ11_mismatch 19 = .ok (.aload_n 0, 1) := dk_42 (dk_at dksJ11_mismatch_0 19 rfl rfl)
theorem dJ11_mismatch_20 : decode cJ11_mismatch 20 = .ok (.getstatic 126, 3) := dk_178 0 126 (dk_at dksJ11_mismatch_0 20 rfl rfl)
theorem dJ11_mismatch_23 : decode cJ11_mismatch 23 = .ok (.i2l, 1) := dk_133 (dk_at dksJ11_mismatch_0 23 rfl rfl)
theorem dJ11_mismatch_24 : decode cJ11_mismatch 24 = .ok (.aload_n 1, 1) := dk_43 (dk_at dksJ11_mismatch_1 0 rfl rfl)
theorem dJ11_mismatch_25 : decode cJ11_mismatch 25 = .ok (.getstatic 126, 3) := dk_178 0 126 (dk_at dksJ11_mismatch_1 1 rfl rfl)
theorem dJ11_mismatch_28 : decode cJ11_mismatch 28 = .ok (.i2l, 1) := dk_133 (dk_at dksJ11_mismatch_1 4 rfl rfl)
theorem dJ11_mismatch_29 : decode cJ11_mismatch 29 = .ok (.iload_n 2, 1) := dk_28 (dk_at dksJ11_mismatch_1 5 rfl rfl)
theorem dJ11_mismatch_30 : decode cJ11_mismatch 30 = .ok (.getstatic 129, 3) := dk_178 0 129 (dk_at dksJ11_mismatch_1 6 rfl rfl)
theorem dJ11_mismatch_33 : decode cJ11_mismatch 33 = .ok (.invokestatic 122, 3) := dk_184 0 122 (dk_at dksJ11_mismatch_1 9 rfl rfl)
theorem dJ11_mismatch_36 : decode cJ11_mismatch 36 = .ok (.istore_n 3, 1) := dk_62 (dk_at dksJ11_mismatch_1 12 rfl rfl)
theorem dJ11_mismatch_37 : decode cJ11_mismatch 37 = .ok (.iload_n 3, 1) := dk_29 (dk_at dksJ11_mismatch_1 13 rfl rfl)
theorem dJ11_mismatch_38 : decode cJ11_mismatch 38 = .ok (.ifCond .lt 5, 3) := dk_155 0 5 (dk_at dksJ11_mismatch_1 14 rfl rfl)
theorem dJ11_mismatch_41 : decode cJ11_mismatch 41 = .ok (.iload_n 3, 1) := dk_29 (dk_at dksJ11_mismatch_1 17 rfl rfl)
theorem dJ11_mismatch_42 : decode cJ11_mismatch 42 = .ok (.ireturn, 1) := dk_172 (dk_at dksJ11_mismatch_1 18 rfl rfl)
theorem dJ11_mismatch_43 : decode cJ11_mismatch 43 = .ok (.iload_n 2, 1) := dk_28 (dk_at dksJ11_mismatch_1 19 rfl rfl)
theorem dJ11_mismatch_44 : decode cJ11_mismatch 44 = .ok (.iload_n 3, 1) := dk_29 (dk_at dksJ11_mismatch_1 20 rfl rfl)
theorem dJ11_mismatch_45 : decode cJ11_mismatch 45 = .ok (.iconst (-1), 1) := dk_2 (dk_at dksJ11_mismatch_1 21 rfl rfl)
theorem dJ11_mismatch_46 : decode cJ11_mismatch 46 = .ok (.ixor, 1) := dk_130 (dk_at dksJ11_mismatch_1 22 rfl rfl)
theorem dJ11_mismatch_47 : decode cJ11_mismatch 47 = .ok (.isub, 1) := dk_100 (dk_at dksJ11_mismatch_1 23 rfl rfl)
theorem dJ11_mismatch_48 : decode cJ11_mismatch 48 = .ok (.istore_n 3, 1) := dk_62 (dk_at dksJ11_mismatch_2 0 rfl rfl)
theorem dJ11_mismatch_49 : decode cJ11_mismatch 49 = .ok (.iload_n 3, 1) := dk_29 (dk_at dksJ11_mismatch_2 1 rfl rfl)
theorem dJ11_mismatch_50 : decode cJ11_mismatch 50 = .ok (.iload_n 2, 1) := dk_28 (dk_at dksJ11_mismatch_2 2 rfl rfl)
theorem dJ11_mismatch_51 : decode cJ11_mismatch 51 = .ok (.if_icmp .ge 20, 3) := dk_162 0 20 (dk_at dksJ11_mismatch_2 3 rfl rfl)
theorem dJ11_mismatch_54 : decode cJ11_mismatch 54 = .ok (.aload_n 0, 1) := dk_42 (dk_at dksJ11_mismatch_2 6 rfl rfl)
theorem dJ11_mismatch_55 : decode cJ11_mismatch 55 = .ok (.iload_n 3, 1) := dk_29 (dk_at dksJ11_mismatch_2 7 rfl rfl)
theorem dJ11_mismatch_56 : decode cJ11_mismatch 56 = .ok (.baload, 1) := dk_51 (dk_at dksJ11_mismatch_2 8 rfl rfl)
theorem dJ11_mismatch_57 : decode cJ11_mismatch 57 = .ok (.aload_n 1, 1) := dk_43 (dk_at dksJ11_mismatch_2 9 rfl rfl)
theorem dJ11_mismatch_58 : decode cJ11_mismatch 58 = .ok (.iload_n 3, 1) := dk_29 (dk_at dksJ11_mismatch_2 10 rfl rfl)
theorem dJ11_mismatch_59 : decode cJ11_mismatch 59 = .ok (.baload, 1) := dk_51 (dk_at dksJ11_mismatch_2 11 rfl rfl)
theorem dJ11_mismatch_60 : decode cJ11_mismatch 60 = .ok (.if_icmp .eq 5, 3) := dk_159 0 5 (dk_at dksJ11_mismatch_2 12 rfl rfl)
theorem dJ11_mismatch_63 : decode cJ11_mismatch 63 = .ok (.iload_n 3, 1) := dk_29 (dk_at dksJ11_mismatch_2 15 rfl rfl)
theorem dJ11_mismatch_64 : decode cJ11_mismatch 64 = .ok (.ireturn, 1) := dk_172 (dk_at dksJ11_mismatch_2 16 rfl rfl)
theorem dJ11_mismatch_65 : decode cJ11_mismatch 65 = .ok (.iinc 3 1, 3) := dk_132 3 1 (dk_at dksJ11_mismatch_2 17 rfl rfl)
theorem dJ11_mismatch_68 : decode cJ11_mismatch 68 = .ok (.goto (-19), 3) := dk_167 255 237 (dk_at dksJ11_mismatch_2 20 rfl rfl)
theorem dJ11_mismatch_71 : decode cJ11_mismatch 71 = .ok (.iconst (-1), 1) := dk_2 (dk_at dksJ11_mismatch_2 23 rfl rfl)
theorem dJ11_mismatch_72 : decode cJ11_mismatch 72 = .ok (.ireturn, 1) := dk_172 (dk_at dksJ11_mismatch_3 0 rfl rfl)
abbrev cJ11_vectorizedMismatch : ByteArray := prog_100_method_3_code
def yJ11_vectorizedMismatch : MethodName := ⟨RJ11, "vectorizedMismatch", "(Ljava/lang/Object;JLjava/lang/Object;JII)I"⟩
def dkwJ11_vectorizedMismatch_11 : List UInt8 := [54, 10, 21, 10, 2, 130, 172, 21, 10, 2, 130, 172]
abbrev dktJ11_vectorizedMismatch_11 : List UInt8 := dkwJ11_vectorizedMismatch_11 ++ []
def dkwJ11_vectorizedMismatch_10 : List UInt8 := [178, 0, 46, 21, 7, 96, 122, 54, 17, 21, 9, 21, 8, 120, 21, 17, 96, 172, 21, 10, 21, 11, 100]
abbrev dktJ11_vectorizedMismatch_10 : List UInt8 := dkwJ11_vectorizedMismatch_10 ++ dktJ11_vectorizedMismatch_11
def dkwJ11_vectorizedMismatch_9 : List UInt8 := [153, 0, 18, 21, 16, 184, 0, 58, 178, 0, 46, 21, 7, 96, 122, 167, 0, 15, 21, 16, 184, 0, 11]
abbrev dktJ11_vectorizedMismatch_9 : List UInt8 := dkwJ11_vectorizedMismatch_9 ++ dktJ11_vectorizedMismatch_10
def dkwJ11_vectorizedMismatch_8 : List UInt8 := [182, 0, 54, 54, 15, 21, 14, 21, 15, 159, 0, 54, 21, 14, 21, 15, 130, 54, 16, 178, 0, 36]
abbrev dktJ11_vectorizedMismatch_8 : List UInt8 := dkwJ11_vectorizedMismatch_8 ++ dktJ11_vectorizedMismatch_9
def dkwJ11_vectorizedMismatch_7 : List UInt8 := [55, 12, 178, 0, 26, 42, 31, 22, 12, 97, 182, 0, 54, 54, 14, 178, 0, 26, 45, 22, 4, 22, 12, 97]
abbrev dktJ11_vectorizedMismatch_7 : List UInt8 := dkwJ11_vectorizedMismatch_7 ++ dktJ11_vectorizedMismatch_8
def dkwJ11_vectorizedMismatch_6 : List UInt8 := [4, 178, 0, 51, 21, 7, 100, 120, 54, 11, 21, 10, 21, 11, 161, 0, 104, 21, 9, 133, 178, 0, 20, 121]
abbrev dktJ11_vectorizedMismatch_6 : List UInt8 := dkwJ11_vectorizedMismatch_6 ++ dktJ11_vectorizedMismatch_7
def dkwJ11_vectorizedMismatch_5 : List UInt8 := [132, 9, 1, 167, 255, 148, 21, 6, 21, 9, 21, 8, 120, 100, 54, 10, 21, 7, 178, 0, 51, 162, 0, 126]
abbrev dktJ11_vectorizedMismatch_5 : List UInt8 := dkwJ11_vectorizedMismatch_5 ++ dktJ11_vectorizedMismatch_6
def dkwJ11_vectorizedMismatch_4 : List UInt8 := [22, 16, 184, 0, 49, 178, 0, 46, 21, 7, 96, 122, 54, 18, 21, 9, 21, 8, 120, 21, 18, 96, 172]
abbrev dktJ11_vectorizedMismatch_4 : List UInt8 := dkwJ11_vectorizedMismatch_4 ++ dktJ11_vectorizedMismatch_5
def dkwJ11_vectorizedMismatch_3 : List UInt8 := [55, 16, 178, 0, 36, 153, 0, 18, 22, 16, 184, 0, 40, 178, 0, 46, 21, 7, 96, 122, 167, 0, 15]
abbrev dktJ11_vectorizedMismatch_3 : List UInt8 := dkwJ11_vectorizedMismatch_3 ++ dktJ11_vectorizedMismatch_4
def dkwJ11_vectorizedMismatch_2 : List UInt8 := [22, 4, 22, 10, 97, 182, 0, 30, 55, 14, 22, 12, 22, 14, 148, 153, 0, 54, 22, 12, 22, 14, 131]
abbrev dktJ11_vectorizedMismatch_2 : List UInt8 := dkwJ11_vectorizedMismatch_2 ++ dktJ11_vectorizedMismatch_3
def dkwJ11_vectorizedMismatch_1 : List UInt8 := [178, 0, 20, 121, 55, 10, 178, 0, 26, 42, 31, 22, 10, 97, 182, 0, 30, 55, 12, 178, 0, 26, 45]
abbrev dktJ11_vectorizedMismatch_1 : List UInt8 := dkwJ11_vectorizedMismatch_1 ++ dktJ11_vectorizedMismatch_2
def dkwJ11_vectorizedMismatch_0 : List UInt8 := [178, 0, 20, 21, 7, 100, 54, 8, 3, 54, 9, 21, 9, 21, 6, 21, 8, 122, 162, 0, 104, 21, 9, 133]
abbrev dktJ11_vectorizedMismatch_0 : List UInt8 := dkwJ11_vectorizedMismatch_0 ++ dktJ11_vectorizedMismatch_1
theorem dksJ11_vectorizedMismatch_0 : cJ11_vectorizedMismatch.data.toList.drop 0 = dktJ11_vectorizedMismatch_0 := by decide +kernel
theorem dksJ11_vectorizedMismatch_1 : cJ11_vectorizedMismatch.data.toList.drop 24 = dktJ11_vectorizedMismatch_1 := dk_seg dksJ11_vectorizedMismatch_0 24 rfl rfl
theorem dksJ11_vectorizedMismatch_2 : cJ11_vectorizedMismatch.data.toList.drop 47 = dktJ11_vectorizedMismatch_2 := dk_seg dksJ11_vectorizedMismatch_1 23 rfl rfl
theorem dksJ11_vectorizedMismatch_3 : cJ11_vectorizedMismatch.data.toList.drop 70 = dktJ11_vectorizedMismatch_3 := dk_seg dksJ11_vectorizedMismatch_2 23 rfl rfl
theorem dksJ11_vectorizedMismatch_4 : cJ11_vectorizedMismatch.data.toList.drop 93 = dktJ11_vectorizedMismatch_4 := dk_seg dksJ11_vectorizedMismatch_3 23 rfl rfl
theorem dksJ11_vectorizedMismatch_5 : cJ11_vectorizedMismatch.data.toList.drop 116 = dktJ11_vectorizedMismatch_5 := dk_seg dksJ11_vectorizedMismatch_4 23 rfl rfl
theorem dksJ11_vectorizedMismatch_6 : cJ11_vectorizedMismatch.data.toList.drop 140 = dktJ11_vectorizedMismatch_6 := dk_seg dksJ11_vectorizedMismatch_5 24 rfl rfl
theorem dksJ11_vectorizedMismatch_7 : cJ11_vectorizedMismatch.data.toList.drop 164 = dktJ11_vectorizedMismatch_7 := dk_seg dksJ11_vectorizedMismatch_6 24 rfl rfl
theorem dksJ11_vectorizedMismatch_8 : cJ11_vectorizedMismatch.data.toList.drop 188 = dktJ11_vectorizedMismatch_8 := dk_seg dksJ11_vectorizedMismatch_7 24 rfl rfl
theorem dksJ11_vectorizedMismatch_9 : cJ11_vectorizedMismatch.data.toList.drop 210 = dktJ11_vectorizedMismatch_9 := dk_seg dksJ11_vectorizedMismatch_8 22 rfl rfl
theorem dksJ11_vectorizedMismatch_10 : cJ11_vectorizedMismatch.data.toList.drop 233 = dktJ11_vectorizedMismatch_10 := dk_seg dksJ11_vectorizedMismatch_9 23 rfl rfl
theorem dksJ11_vectorizedMismatch_11 : cJ11_vectorizedMismatch.data.toList.drop 256 = dktJ11_vectorizedMismatch_11 := dk_seg dksJ11_vectorizedMismatch_10 23 rfl rfl
theorem dJ11_vectorizedMismatch_0 : decode cJ11_vectorizedMismatch 0 = .ok (.getstatic 20, 3) := dk_178 0 20 (dk_at dksJ11_vectorizedMismatch_0 0 rfl rfl)
theorem dJ11_vectorizedMismatch_3 : decode cJ11_vectorizedMismatch 3 = .ok (.iload 7, 2) := dk_21 7 (dk_at dksJ11_vectorizedMismatch_0 3 rfl rfl)
theorem dJ11_vectorizedMismatch_5 : decode cJ11_vectorizedMismatch 5 = .ok (.isub, 1) := dk_100 (dk_at dksJ11_vectorizedMismatch_0 5 rfl rfl)
theorem dJ11_vectorizedMismatch_6 : decode cJ11_vectorizedMismatch 6 = .ok (.istore 8, 2) := dk_54 8 (dk_at dksJ11_vectorizedMismatch_0 6 rfl rfl)
theorem dJ11_vectorizedMismatch_8 : decode cJ11_vectorizedMismatch 8 = .ok (.iconst 0, 1) := dk_3 (dk_at dksJ11_vectorizedMismatch_0 8 rfl rfl)
theorem dJ11_vectorizedMismatch_9 : decode cJ11_vectorizedMismatch 9 = .ok (.istore 9, 2) := dk_54 9 (dk_at dksJ11_vectorizedMismatch_0 9 rfl rfl)
theorem dJ11_vectorizedMismatch_11 : decode cJ11_vectorizedMismatch 11 = .ok (.iload 9, 2) := dk_21 9 (dk_at dksJ11_vectorizedMismatch_0 11 rfl rfl)
theorem dJ11_vectorizedMismatch_13 : decode cJ11_vectorizedMismatch 13 = .ok (.iload 6, 2) := dk_21 6 (dk_at dksJ11_vectorizedMismatch_0 13 rfl rfl)
theorem dJ11_vectorizedMismatch_15 : decode cJ11_vectorizedMismatch 15 = .ok (.iload 8, 2) := dk_21 8 (dk_at dksJ11_vectorizedMismatch_0 15 rfl rfl)
theorem dJ11_vectorizedMismatch_17 : decode cJ11_vectorizedMismatch 17 = .ok (.ishr, 1) := dk_122 (dk_at dksJ11_vectorizedMismatch_0 17 rfl rfl)
theorem dJ11_vectorizedMismatch_18 : decode cJ11_vectorizedMismatch 18 = .ok (.if_icmp .ge 104, 3) := dk_162 0 104 (dk_at dksJ11_vectorizedMismatch_0 18 rfl rfl)
theorem dJ11_vectorizedMismatch_21 : decode cJ11_vectorizedMismatch 21 = .ok (.iload 9, 2) := dk_21 9 (dk_at dksJ11_vectorizedMismatch_0 21 rfl rfl)
theorem dJ11_vectorizedMismatch_23 : decode cJ11_vectorizedMismatch 23 = .ok (.i2l, 1) := dk_133 (dk_at dksJ11_vectorizedMismatch_0 23 rfl rfl)
theorem dJ11_vectorizedMismatch_24 : decode cJ11_vectorizedMismatch 24 = .ok (.getstatic 20, 3) := dk_178 0 20 (dk_at dksJ11_vectorizedMismatch_1 0 rfl rfl)
theorem dJ11_vectorizedMismatch_27 : decode cJ11_vectorizedMismatch 27 = .ok (.lshl, 1) := dk_121 (dk_at dksJ11_vectorizedMismatch_1 3 rfl rfl)
theorem dJ11_vectorizedMismatch_28 : decode cJ11_vectorizedMismatch 28 = .ok (.lstore 10, 2) := dk_55 10 (dk_at dksJ11_vectorizedMismatch_1 4 rfl rfl)
theorem dJ11_vectorizedMismatch_30 : decode cJ11_vectorizedMismatch 30 = .ok (.getstatic 26, 3) := dk_178 0 26 (dk_at dksJ11_vectorizedMismatch_1 6 rfl rfl)
theorem dJ11_vectorizedMismatch_33 : decode cJ11_vectorizedMismatch 33 = .ok (.aload_n 0, 1) := dk_42 (dk_at dksJ11_vectorizedMismatch_1 9 rfl rfl)
theorem dJ11_vectorizedMismatch_34 : decode cJ11_vectorizedMismatch 34 = .ok (.lload_n 1, 1) := dk_31 (dk_at dksJ11_vectorizedMismatch_1 10 rfl rfl)
theorem dJ11_vectorizedMismatch_35 : decode cJ11_vectorizedMismatch 35 = .ok (.lload 10, 2) := dk_22 10 (dk_at dksJ11_vectorizedMismatch_1 11 rfl rfl)
theorem dJ11_vectorizedMismatch_37 : decode cJ11_vectorizedMismatch 37 = .ok (.ladd, 1) := dk_97 (dk_at dksJ11_vectorizedMismatch_1 13 rfl rfl)
theorem dJ11_vectorizedMismatch_38 : decode cJ11_vectorizedMismatch 38 = .ok (.invokevirtual 30, 3) := dk_182 0 30 (dk_at dksJ11_vectorizedMismatch_1 14 rfl rfl)
theorem dJ11_vectorizedMismatch_41 : decode cJ11_vectorizedMismatch 41 = .ok (.lstore 12, 2) := dk_55 12 (dk_at dksJ11_vectorizedMismatch_1 17 rfl rfl)
theorem dJ11_vectorizedMismatch_43 : decode cJ11_vectorizedMismatch 43 = .ok (.getstatic 26, 3) := dk_178 0 26 (dk_at dksJ11_vectorizedMismatch_1 19 rfl rfl)
theorem dJ11_vectorizedMismatch_46 : decode cJ11_vectorizedMismatch 46 = .ok (.aload_n 3, 1) := dk_45 (dk_at dksJ11_vectorizedMismatch_1 22 rfl rfl)
theorem dJ11_vectorizedMismatch_47 : decode cJ11_vectorizedMismatch 47 = .ok (.lload 4, 2) := dk_22 4 (dk_at dksJ11_vectorizedMismatch_2 0 rfl rfl)
theorem dJ11_vectorizedMismatch_49 : decode cJ11_vectorizedMismatch 49 = .ok (.lload 10, 2) := dk_22 10 (dk_at dksJ11_vectorizedMismatch_2 2 rfl rfl)
theorem dJ11_vectorizedMismatch_51 : decode cJ11_vectorizedMismatch 51 = .ok (.ladd, 1) := dk_97 (dk_at dksJ11_vectorizedMismatch_2 4 rfl rfl)
theorem dJ11_vectorizedMismatch_52 : decode cJ11_vectorizedMismatch 52 = .ok (.invokevirtual 30, 3) := dk_182 0 30 (dk_at dksJ11_vectorizedMismatch_2 5 rfl rfl)
theorem dJ11_vectorizedMismatch_55 : decode cJ11_vectorizedMismatch 55 = .ok (.lstore 14, 2) := dk_55 14 (dk_at dksJ11_vectorizedMismatch_2 8 rfl rfl)
theorem dJ11_vectorizedMismatch_57 : decode cJ11_vectorizedMismatch 57 = .ok (.lload 12, 2) := dk_22 12 (dk_at dksJ11_vectorizedMismatch_2 10 rfl rfl)
theorem dJ11_vectorizedMismatch_59 : decode cJ11_vectorizedMismatch 59 = .ok (.lload 14, 2) := dk_22 14 (dk_at dksJ11_vectorizedMismatch_2 12 rfl rfl)
theorem dJ11_vectorizedMismatch_61 : decode cJ11_vectorizedMismatch 61 = .ok (.lcmp, 1) := dk_148 (dk_at dksJ11_vectorizedMismatch_2 14 rfl rfl)
theorem dJ11_vectorizedMismatch_62 : decode cJ11_vectorizedMismatch 62 = .ok (.ifCond .eq 54, 3) := dk_153 0 54 (dk_at dksJ11_vectorizedMismatch_2 15 rfl rfl)
theorem dJ11_vectorizedMismatch_65 : decode cJ11_vectorizedMismatch 65 = .ok (.lload 12, 2) := dk_22 12 (dk_at dksJ11_vectorizedMismatch_2 18 rfl rfl)
theorem dJ11_vectorizedMismatch_67 : decode cJ11_vectorizedMismatch 67 = .ok (.lload 14, 2) := dk_22 14 (dk_at dksJ11_vectorizedMismatch_2 20 rfl rfl)
theorem dJ11_vectorizedMismatch_69 : decode cJ11_vectorizedMismatch 69 = .ok (.lxor, 1) := dk_131 (dk_at dksJ11_vectorizedMismatch_2 22 rfl rfl)
theorem dJ11_vectorizedMismatch_70 : decode cJ11_vectorizedMismatch 70 = .ok (.lstore 16, 2) := dk_55 16 (dk_at dksJ11_vectorizedMismatch_3 0 rfl rfl)
theorem dJ11_vectorizedMismatch_72 : decode cJ11_vectorizedMismatch 72 = .ok (.getstatic 36, 3) := dk_178 0 36 (dk_at dksJ11_vectorizedMismatch_3 2 rfl rfl)
theorem dJ11_vectorizedMismatch_75 : decode cJ11_vectorizedMismatch 75 = .ok (.ifCond .eq 18, 3) := dk_153 0 18 (dk_at dksJ11_vectorizedMismatch_3 5 rfl rfl)
theorem dJ11_vectorizedMismatch_78 : decode cJ11_vectorizedMismatch 78 = .ok (.lload 16, 2) := dk_22 16 (dk_at dksJ11_vectorizedMismatch_3 8 rfl rfl)
theorem dJ11_vectorizedMismatch_80 : decode cJ11_vectorizedMismatch 80 = .ok (.invokestatic 40, 3) := dk_184 0 40 (dk_at dksJ11_vectorizedMismatch_3 10 rfl rfl)
theorem dJ11_vectorizedMismatch_83 : decode cJ11_vectorizedMismatch 83 = .ok (.getstatic 46, 3) := dk_178 0 46 (dk_at dksJ11_vectorizedMismatch_3 13 rfl rfl)
theorem dJ11_vectorizedMismatch_86 : decode cJ11_vectorizedMismatch 86 = .ok (.iload 7, 2) := dk_21 7 (dk_at dksJ11_vectorizedMismatch_3 16 rfl rfl)
theorem dJ11_vectorizedMismatch_88 : decode cJ11_vectorizedMismatch 88 = .ok (.iadd, 1) := dk_96 (dk_at dksJ11_vectorizedMismatch_3 18 rfl rfl)
theorem dJ11_vectorizedMismatch_89 : decode cJ11_vectorizedMismatch 89 = .ok (.ishr, 1) := dk_122 (dk_at dksJ11_vectorizedMismatch_3 19 rfl rfl)
theorem dJ11_vectorizedMismatch_90 : decode cJ11_vectorizedMismatch 90 = .ok (.goto 15, 3) := dk_167 0 15 (dk_at dksJ11_vectorizedMismatch_3 20 rfl rfl)
theorem dJ11_vectorizedMismatch_93 : decode cJ11_vectorizedMismatch 93 = .ok (.lload 16, 2) := dk_22 16 (dk_at dksJ11_vectorizedMismatch_4 0 rfl rfl)
theorem dJ11_vectorizedMismatch_95 : decode cJ11_vectorizedMismatch 95 = .ok (.invokestatic 49, 3) := dk_184 0 49 (dk_at dksJ11_vectorizedMismatch_4 2 rfl rfl)
theorem dJ11_vectorizedMismatch_98 : decode cJ11_vectorizedMismatch 98 = .ok (.getstatic 46, 3) := dk_178 0 46 (dk_at dksJ11_vectorizedMismatch_4 5 rfl rfl)
theorem dJ11_vectorizedMismatch_101 : decode cJ11_vectorizedMismatch 101 = .ok (.iload 7, 2) := dk_21 7 (dk_at dksJ11_vectorizedMismatch_4 8 rfl rfl)
theorem dJ11_vectorizedMismatch_103 : decode cJ11_vectorizedMismatch 103 = .ok (.iadd, 1) := dk_96 (dk_at dksJ11_vectorizedMismatch_4 10 rfl rfl)
theorem dJ11_vectorizedMismatch_104 : decode cJ11_vectorizedMismatch 104 = .ok (.ishr, 1) := dk_122 (dk_at dksJ11_vectorizedMismatch_4 11 rfl rfl)
theorem dJ11_vectorizedMismatch_105 : decode cJ11_vectorizedMismatch 105 = .ok (.istore 18, 2) := dk_54 18 (dk_at dksJ11_vectorizedMismatch_4 12 rfl rfl)
theorem dJ11_vectorizedMismatch_107 : decode cJ11_vectorizedMismatch 107 = .ok (.iload 9, 2) := dk_21 9 (dk_at dksJ11_vectorizedMismatch_4 14 rfl rfl)
theorem dJ11_vectorizedMismatch_109 : decode cJ11_vectorizedMismatch 109 = .ok (.iload 8, 2) := dk_21 8 (dk_at dksJ11_vectorizedMismatch_4 16 rfl rfl)
theorem dJ11_vectorizedMismatch_111 : decode cJ11_vectorizedMismatch 111 = .ok (.ishl, 1) := dk_120 (dk_at dksJ11_vectorizedMismatch_4 18 rfl rfl)
theorem dJ11_vectorizedMismatch_112 : decode cJ11_vectorizedMismatch 112 = .ok (.iload 18, 2) := dk_21 18 (dk_at dksJ11_vectorizedMismatch_4 19 rfl rfl)
theorem dJ11_vectorizedMismatch_114 : decode cJ11_vectorizedMismatch 114 = .ok (.iadd, 1) := dk_96 (dk_at dksJ11_vectorizedMismatch_4 21 rfl rfl)
theorem dJ11_vectorizedMismatch_115 : decode cJ11_vectorizedMismatch 115 = .ok (.ireturn, 1) := dk_172 (dk_at dksJ11_vectorizedMismatch_4 22 rfl rfl)
theorem dJ11_vectorizedMismatch_116 : decode cJ11_vectorizedMismatch 116 = .ok (.iinc 9 1, 3) := dk_132 9 1 (dk_at dksJ11_vectorizedMismatch_5 0 rfl rfl)
theorem dJ11_vectorizedMismatch_119 : decode cJ11_vectorizedMismatch 119 = .ok (.goto (-108), 3) := dk_167 255 148 (dk_at dksJ11_vectorizedMismatch_5 3 rfl rfl)
theorem dJ11_vectorizedMismatch_122 : decode cJ11_vectorizedMismatch 122 = .ok (.iload 6, 2) := dk_21 6 (dk_at dksJ11_vectorizedMismatch_5 6 rfl rfl)
theorem dJ11_vectorizedMismatch_124 : decode cJ11_vectorizedMismatch 124 = .ok (.iload 9, 2) := dk_21 9 (dk_at dksJ11_vectorizedMismatch_5 8 rfl rfl)
theorem dJ11_vectorizedMismatch_126 : decode cJ11_vectorizedMismatch 126 = .ok (.iload 8, 2) := dk_21 8 (dk_at dksJ11_vectorizedMismatch_5 10 rfl rfl)
theorem dJ11_vectorizedMismatch_128 : decode cJ11_vectorizedMismatch 128 = .ok (.ishl, 1) := dk_120 (dk_at dksJ11_vectorizedMismatch_5 12 rfl rfl)
theorem dJ11_vectorizedMismatch_129 : decode cJ11_vectorizedMismatch 129 = .ok (.isub, 1) := dk_100 (dk_at dksJ11_vectorizedMismatch_5 13 rfl rfl)
theorem dJ11_vectorizedMismatch_130 : decode cJ11_vectorizedMismatch 130 = .ok (.istore 10, 2) := dk_54 10 (dk_at dksJ11_vectorizedMismatch_5 14 rfl rfl)
theorem dJ11_vectorizedMismatch_132 : decode cJ11_vectorizedMismatch 132 = .ok (.iload 7, 2) := dk_21 7 (dk_at dksJ11_vectorizedMismatch_5 16 rfl rfl)
theorem dJ11_vectorizedMismatch_134 : decode cJ11_vectorizedMismatch 134 = .ok (.getstatic 51, 3) := dk_178 0 51 (dk_at dksJ11_vectorizedMismatch_5 18 rfl rfl)
theorem dJ11_vectorizedMismatch_137 : decode cJ11_vectorizedMismatch 137 = .ok (.if_icmp .ge 126, 3) := dk_162 0 126 (dk_at dksJ11_vectorizedMismatch_5 21 rfl rfl)
theorem dJ11_vectorizedMismatch_140 : decode cJ11_vectorizedMismatch 140 = .ok (.iconst 1, 1) := dk_4 (dk_at dksJ11_vectorizedMismatch_6 0 rfl rfl)
theorem dJ11_vectorizedMismatch_141 : decode cJ11_vectorizedMismatch 141 = .ok (.getstatic 51, 3) := dk_178 0 51 (dk_at dksJ11_vectorizedMismatch_6 1 rfl rfl)
theorem dJ11_vectorizedMismatch_144 : decode cJ11_vectorizedMismatch 144 = .ok (.iload 7, 2) := dk_21 7 (dk_at dksJ11_vectorizedMismatch_6 4 rfl rfl)
theorem dJ11_vectorizedMismatch_146 : decode cJ11_vectorizedMismatch 146 = .ok (.isub, 1) := dk_100 (dk_at dksJ11_vectorizedMismatch_6 6 rfl rfl)
theorem dJ11_vectorizedMismatch_147 : decode cJ11_vectorizedMismatch 147 = .ok (.ishl, 1) := dk_120 (dk_at dksJ11_vectorizedMismatch_6 7 rfl rfl)
theorem dJ11_vectorizedMismatch_148 : decode cJ11_vectorizedMismatch 148 = .ok (.istore 11, 2) := dk_54 11 (dk_at dksJ11_vectorizedMismatch_6 8 rfl rfl)
theorem dJ11_vectorizedMismatch_150 : decode cJ11_vectorizedMismatch 150 = .ok (.iload 10, 2) := dk_21 10 (dk_at dksJ11_vectorizedMismatch_6 10 rfl rfl)
theorem dJ11_vectorizedMismatch_152 : decode cJ11_vectorizedMismatch 152 = .ok (.iload 11, 2) := dk_21 11 (dk_at dksJ11_vectorizedMismatch_6 12 rfl rfl)
theorem dJ11_vectorizedMismatch_154 : decode cJ11_vectorizedMismatch 154 = .ok (.if_icmp .lt 104, 3) := dk_161 0 104 (dk_at dksJ11_vectorizedMismatch_6 14 rfl rfl)
theorem dJ11_vectorizedMismatch_157 : decode cJ11_vectorizedMismatch 157 = .ok (.iload 9, 2) := dk_21 9 (dk_at dksJ11_vectorizedMismatch_6 17 rfl rfl)
theorem dJ11_vectorizedMismatch_159 : decode cJ11_vectorizedMismatch 159 = .ok (.i2l, 1) := dk_133 (dk_at dksJ11_vectorizedMismatch_6 19 rfl rfl)
theorem dJ11_vectorizedMismatch_160 : decode cJ11_vectorizedMismatch 160 = .ok (.getstatic 20, 3) := dk_178 0 20 (dk_at dksJ11_vectorizedMismatch_6 20 rfl rfl)
theorem dJ11_vectorizedMismatch_163 : decode cJ11_vectorizedMismatch 163 = .ok (.lshl, 1) := dk_121 (dk_at dksJ11_vectorizedMismatch_6 23 rfl rfl)
theorem dJ11_vectorizedMismatch_164 : decode cJ11_vectorizedMismatch 164 = .ok (.lstore 12, 2) := dk_55 12 (dk_at dksJ11_vectorizedMismatch_7 0 rfl rfl)
theorem dJ11_vectorizedMismatch_166 : decode cJ11_vectorizedMismatch 166 = .ok (.getstatic 26, 3) := dk_178 0 26 (dk_at dksJ11_vectorizedMismatch_7 2 rfl rfl)
theorem dJ11_vectorizedMismatch_169 : decode cJ11_vectorizedMismatch 169 = .ok (.aload_n 0, 1) := dk_42 (dk_at dksJ11_vectorizedMismatch_7 5 rfl rfl)
theorem dJ11_vectorizedMismatch_170 : decode cJ11_vectorizedMismatch 170 = .ok (.lload_n 1, 1) := dk_31 (dk_at dksJ11_vectorizedMismatch_7 6 rfl rfl)
theorem dJ11_vectorizedMismatch_171 : decode cJ11_vectorizedMismatch 171 = .ok (.lload 12, 2) := dk_22 12 (dk_at dksJ11_vectorizedMismatch_7 7 rfl rfl)
theorem dJ11_vectorizedMismatch_173 : decode cJ11_vectorizedMismatch 173 = .ok (.ladd, 1) := dk_97 (dk_at dksJ11_vectorizedMismatch_7 9 rfl rfl)
theorem dJ11_vectorizedMismatch_174 : decode cJ11_vectorizedMismatch 174 = .ok (.invokevirtual 54, 3) := dk_182 0 54 (dk_at dksJ11_vectorizedMismatch_7 10 rfl rfl)
theorem dJ11_vectorizedMismatch_177 : decode cJ11_vectorizedMismatch 177 = .ok (.istore 14, 2) := dk_54 14 (dk_at dksJ11_vectorizedMismatch_7 13 rfl rfl)
theorem dJ11_vectorizedMismatch_179 : decode cJ11_vectorizedMismatch 179 = .ok (.getstatic 26, 3) := dk_178 0 26 (dk_at dksJ11_vectorizedMismatch_7 15 rfl rfl)
theorem dJ11_vectorizedMismatch_182 : decode cJ11_vectorizedMismatch 182 = .ok (.aload_n 3, 1) := dk_45 (dk_at dksJ11_vectorizedMismatch_7 18 rfl rfl)
theorem dJ11_vectorizedMismatch_183 : decode cJ11_vectorizedMismatch 183 = .ok (.lload 4, 2) := dk_22 4 (dk_at dksJ11_vectorizedMismatch_7 19 rfl rfl)
theorem dJ11_vectorizedMismatch_185 : decode cJ11_vectorizedMismatch 185 = .ok (.lload 12, 2) := dk_22 12 (dk_at dksJ11_vectorizedMismatch_7 21 rfl rfl)
theorem dJ11_vectorizedMismatch_187 : decode cJ11_vectorizedMismatch 187 = .ok (.ladd, 1) := dk_97 (dk_at dksJ11_vectorizedMismatch_7 23 rfl rfl)
theorem dJ11_vectorizedMismatch_188 : decode cJ11_vectorizedMismatch 188 = .ok (.invokevirtual 54, 3) := dk_182 0 54 (dk_at dksJ11_vectorizedMismatch_8 0 rfl rfl)
theorem dJ11_vectorizedMismatch_191 : decode cJ11_vectorizedMismatch 191 = .ok (.istore 15, 2) := dk_54 15 (dk_at dksJ11_vectorizedMismatch_8 3 rfl rfl)
theorem dJ11_vectorizedMismatch_193 : decode cJ11_vectorizedMismatch 193 = .ok (.iload 14, 2) := dk_21 14 (dk_at dksJ11_vectorizedMismatch_8 5 rfl rfl)
theorem dJ11_vectorizedMismatch_195 : decode cJ11_vectorizedMismatch 195 = .ok (.iload 15, 2) := dk_21 15 (dk_at dksJ11_vectorizedMismatch_8 7 rfl rfl)
theorem dJ11_vectorizedMismatch_197 : decode cJ11_vectorizedMismatch 197 = .ok (.if_icmp .eq 54, 3) := dk_159 0 54 (dk_at dksJ11_vectorizedMismatch_8 9 rfl rfl)
theorem dJ11_vectorizedMismatch_200 : decode cJ11_vectorizedMismatch 200 = .ok (.iload 14, 2) := dk_21 14 (dk_at dksJ11_vectorizedMismatch_8 12 rfl rfl)
theorem dJ11_vectorizedMismatch_202 : decode cJ11_vectorizedMismatch 202 = .ok (.iload 15, 2) := dk_21 15 (dk_at dksJ11_vectorizedMismatch_8 14 rfl rfl)
theorem dJ11_vectorizedMismatch_204 : decode cJ11_vectorizedMismatch 204 = .ok (.ixor, 1) := dk_130 (dk_at dksJ11_vectorizedMismatch_8 16 rfl rfl)
theorem dJ11_vectorizedMismatch_205 : decode cJ11_vectorizedMismatch 205 = .ok (.istore 16, 2) := dk_54 16 (dk_at dksJ11_vectorizedMismatch_8 17 rfl rfl)
theorem dJ11_vectorizedMismatch_207 : decode cJ11_vectorizedMismatch 207 = .ok (.getstatic 36, 3) := dk_178 0 36 (dk_at dksJ11_vectorizedMismatch_8 19 rfl rfl)
theorem dJ11_vectorizedMismatch_210 : decode cJ11_vectorizedMismatch 210 = .ok (.ifCond .eq 18, 3) := dk_153 0 18 (dk_at dksJ11_vectorizedMismatch_9 0 rfl rfl)
theorem dJ11_vectorizedMismatch_213 : decode cJ11_vectorizedMismatch 213 = .ok (.iload 16, 2) := dk_21 16 (dk_at dksJ11_vectorizedMismatch_9 3 rfl rfl)
theorem dJ11_vectorizedMismatch_215 : decode cJ11_vectorizedMismatch 215 = .ok (.invokestatic 58, 3) := dk_184 0 58 (dk_at dksJ11_vectorizedMismatch_9 5 rfl rfl)
theorem dJ11_vectorizedMismatch_218 : decode cJ11_vectorizedMismatch 218 = .ok (.getstatic 46, 3) := dk_178 0 46 (dk_at dksJ11_vectorizedMismatch_9 8 rfl rfl)
theorem dJ11_vectorizedMismatch_221 : decode cJ11_vectorizedMismatch 221 = .ok (.iload 7, 2) := dk_21 7 (dk_at dksJ11_vectorizedMismatch_9 11 rfl rfl)
theorem dJ11_vectorizedMismatch_223 : decode cJ11_vectorizedMismatch 223 = .ok (.iadd, 1) := dk_96 (dk_at dksJ11_vectorizedMismatch_9 13 rfl rfl)
theorem dJ11_vectorizedMismatch_224 : decode cJ11_vectorizedMismatch 224 = .ok (.ishr, 1) := dk_122 (dk_at dksJ11_vectorizedMismatch_9 14 rfl rfl)
theorem dJ11_vectorizedMismatch_225 : decode cJ11_vectorizedMismatch 225 = .ok (.goto 15, 3) := dk_167 0 15 (dk_at dksJ11_vectorizedMismatch_9 15 rfl rfl)
theorem dJ11_vectorizedMismatch_228 : decode cJ11_vectorizedMismatch 228 = .ok (.iload 16, 2) := dk_21 16 (dk_at dksJ11_vectorizedMismatch_9 18 rfl rfl)
theorem dJ11_vectorizedMismatch_230 : decode cJ11_vectorizedMismatch 230 = .ok (.invokestatic 11, 3) := dk_184 0 11 (dk_at dksJ11_vectorizedMismatch_9 20 rfl rfl)
theorem dJ11_vectorizedMismatch_233 : decode cJ11_vectorizedMismatch 233 = .ok (.getstatic 46, 3) := dk_178 0 46 (dk_at dksJ11_vectorizedMismatch_10 0 rfl rfl)
theorem dJ11_vectorizedMismatch_236 : decode cJ11_vectorizedMismatch 236 = .ok (.iload 7, 2) := dk_21 7 (dk_at dksJ11_vectorizedMismatch_10 3 rfl rfl)
theorem dJ11_vectorizedMismatch_238 : decode cJ11_vectorizedMismatch 238 = .ok (.iadd, 1) := dk_96 (dk_at dksJ11_vectorizedMismatch_10 5 rfl rfl)
theorem dJ11_vectorizedMismatch_239 : decode cJ11_vectorizedMismatch 239 = .ok (.ishr, 1) := dk_122 (dk_at dksJ11_vectorizedMismatch_10 6 rfl rfl)
theorem dJ11_vectorizedMismatch_240 : decode cJ11_vectorizedMismatch 240 = .ok (.istore 17, 2) := dk_54 17 (dk_at dksJ11_vectorizedMismatch_10 7 rfl rfl)
theorem dJ11_vectorizedMismatch_242 : decode cJ11_vectorizedMismatch 242 = .ok (.iload 9, 2) := dk_21 9 (dk_at dksJ11_vectorizedMismatch_10 9 rfl rfl)
theorem dJ11_vectorizedMismatch_244 : decode cJ11_vectorizedMismatch 244 = .ok (.iload 8, 2) := dk_21 8 (dk_at dksJ11_vectorizedMismatch_10 11 rfl rfl)
theorem dJ11_vectorizedMismatch_246 : decode cJ11_vectorizedMismatch 246 = .ok (.ishl, 1) := dk_120 (dk_at dksJ11_vectorizedMismatch_10 13 rfl rfl)
theorem dJ11_vectorizedMismatch_247 : decode cJ11_vectorizedMismatch 247 = .ok (.iload 17, 2) := dk_21 17 (dk_at dksJ11_vectorizedMismatch_10 14 rfl rfl)
theorem dJ11_vectorizedMismatch_249 : decode cJ11_vectorizedMismatch 249 = .ok (.iadd, 1) := dk_96 (dk_at dksJ11_vectorizedMismatch_10 16 rfl rfl)
theorem dJ11_vectorizedMismatch_250 : decode cJ11_vectorizedMismatch 250 = .ok (.ireturn, 1) := dk_172 (dk_at dksJ11_vectorizedMismatch_10 17 rfl rfl)
theorem dJ11_vectorizedMismatch_251 : decode cJ11_vectorizedMismatch 251 = .ok (.iload 10, 2) := dk_21 10 (dk_at dksJ11_vectorizedMismatch_10 18 rfl rfl)
theorem dJ11_vectorizedMismatch_253 : decode cJ11_vectorizedMismatch 253 = .ok (.iload 11, 2) := dk_21 11 (dk_at dksJ11_vectorizedMismatch_10 20 rfl rfl)
theorem dJ11_vectorizedMismatch_255 : decode cJ11_vectorizedMismatch 255 = .ok (.isub, 1) := dk_100 (dk_at dksJ11_vectorizedMismatch_10 22 rfl rfl)
theorem dJ11_vectorizedMismatch_256 : decode cJ11_vectorizedMismatch 256 = .ok (.istore 10, 2) := dk_54 10 (dk_at dksJ11_vectorizedMismatch_11 0 rfl rfl)
theorem dJ11_vectorizedMismatch_258 : decode cJ11_vectorizedMismatch 258 = .ok (.iload 10, 2) := dk_21 10 (dk_at dksJ11_vectorizedMismatch_11 2 rfl rfl)
theorem dJ11_vectorizedMismatch_260 : decode cJ11_vectorizedMismatch 260 = .ok (.iconst (-1), 1) := dk_2 (dk_at dksJ11_vectorizedMismatch_11 4 rfl rfl)
theorem dJ11_vectorizedMismatch_261 : decode cJ11_vectorizedMismatch 261 = .ok (.ixor, 1) := dk_130 (dk_at dksJ11_vectorizedMismatch_11 5 rfl rfl)
theorem dJ11_vectorizedMismatch_262 : decode cJ11_vectorizedMismatch 262 = .ok (.ireturn, 1) := dk_172 (dk_at dksJ11_vectorizedMismatch_11 6 rfl rfl)
theorem dJ11_vectorizedMismatch_263 : decode cJ11_vectorizedMismatch 263 = .ok (.iload 10, 2) := dk_21 10 (dk_at dksJ11_vectorizedMismatch_11 7 rfl rfl)
theorem dJ11_vectorizedMismatch_265 : decode cJ11_vectorizedMismatch 265 = .ok (.iconst (-1), 1) := dk_2 (dk_at dksJ11_vectorizedMismatch_11 9 rfl rfl)
theorem dJ11_vectorizedMismatch_266 : decode cJ11_vectorizedMismatch 266 = .ok (.ixor, 1) := dk_130 (dk_at dksJ11_vectorizedMismatch_11 10 rfl rfl)
theorem dJ11_vectorizedMismatch_267 : decode cJ11_vectorizedMismatch 267 = .ok (.ireturn, 1) := dk_172 (dk_at dksJ11_vectorizedMismatch_11 11 rfl rfl)
theorem q92 : (Jvm.Cond.initialized "jdk/internal/util/ArraysSupport") ∈ lw_all := lw_g (lw_at lw_m1 16 rfl) rfl
theorem q438 : (Jvm.Cond.static ({ cls := "jdk/internal/util/ArraysSupport", name := "newLength", desc := "(III)I" } : Jvm.MethodName)) ∈ lw_all := lw_g (lw_at lw_m2 122 rfl) rfl
theorem q439 : (Jvm.Cond.code ({ cls := "jdk/internal/util/ArraysSupport", name := "newLength", desc := "(III)I" } : Jvm.MethodName) prog_100_method_27_code (4 : Nat) (Option.some Jvm.ClassFile.FieldType.int)) ∈ lw_all := lw_g (lw_at lw_m2 123 rfl) rfl
theorem q440 : (Jvm.Cond.methodLink "jdk/internal/util/ArraysSupport" (194 : Nat) ({ cls := "java/lang/Math", name := "max", desc := "(II)I" } : Jvm.MethodName)) ∈ lw_all := lw_g (lw_at lw_m2 124 rfl) rfl
theorem q443 : (Jvm.Cond.constant "jdk/internal/util/ArraysSupport" (200 : Nat) (2147483639 : Int32)) ∈ lw_all := lw_g (lw_at lw_m2 127 rfl) rfl
theorem q444 : (Jvm.Cond.methodLink "jdk/internal/util/ArraysSupport" (201 : Nat) ({ cls := "jdk/internal/util/ArraysSupport", name := "hugeLength", desc := "(II)I" } : Jvm.MethodName)) ∈ lw_all := lw_g (lw_at lw_m2 128 rfl) rfl
theorem q445 : (Jvm.Cond.static ({ cls := "jdk/internal/util/ArraysSupport", name := "hugeLength", desc := "(II)I" } : Jvm.MethodName)) ∈ lw_all := lw_g (lw_at lw_m2 129 rfl) rfl
theorem q446 : (Jvm.Cond.code ({ cls := "jdk/internal/util/ArraysSupport", name := "hugeLength", desc := "(II)I" } : Jvm.MethodName) prog_100_method_28_code (3 : Nat) (Option.some Jvm.ClassFile.FieldType.int)) ∈ lw_all := lw_g (lw_at lw_m2 130 rfl) rfl
theorem q1308 : (Jvm.Cond.static ({ cls := "jdk/internal/util/ArraysSupport", name := "vectorizedHashCode", desc := "(Ljava/lang/Object;IIII)I" } : Jvm.MethodName)) ∈ lw_all := lw_g (lw_at lw_m6 32 rfl) rfl
theorem q1309 : (Jvm.Cond.code ({ cls := "jdk/internal/util/ArraysSupport", name := "vectorizedHashCode", desc := "(Ljava/lang/Object;IIII)I" } : Jvm.MethodName) prog_100_method_4_code (5 : Nat) (Option.some Jvm.ClassFile.FieldType.int)) ∈ lw_all := lw_g (lw_at lw_m6 33 rfl) rfl
theorem q1310 : (Jvm.Cond.classLink "jdk/internal/util/ArraysSupport" (60 : Nat) "[B") ∈ lw_all := lw_g (lw_at lw_m6 34 rfl) rfl
theorem q1311 : (Jvm.Cond.methodLink "jdk/internal/util/ArraysSupport" (62 : Nat) ({ cls := "jdk/internal/util/ArraysSupport", name := "signedHashCode", desc := "(I[BII)I" } : Jvm.MethodName)) ∈ lw_all := lw_g (lw_at lw_m6 35 rfl) rfl
theorem q1312 : (Jvm.Cond.static ({ cls := "jdk/internal/util/ArraysSupport", name := "signedHashCode", desc := "(I[BII)I" } : Jvm.MethodName)) ∈ lw_all := lw_g (lw_at lw_m6 36 rfl) rfl
theorem q1313 : (Jvm.Cond.code ({ cls := "jdk/internal/util/ArraysSupport", name := "signedHashCode", desc := "(I[BII)I" } : Jvm.MethodName) prog_100_method_5_code (6 : Nat) (Option.some Jvm.ClassFile.FieldType.int)) ∈ lw_all := lw_g (lw_at lw_m6 37 rfl) rfl
theorem q1314 : (Jvm.Cond.methodLink "jdk/internal/util/ArraysSupport" (66 : Nat) ({ cls := "jdk/internal/util/ArraysSupport", name := "utf16hashCode", desc := "(I[BII)I" } : Jvm.MethodName)) ∈ lw_all := lw_g (lw_at lw_m6 38 rfl) rfl
theorem q1315 : (Jvm.Cond.static ({ cls := "jdk/internal/util/ArraysSupport", name := "utf16hashCode", desc := "(I[BII)I" } : Jvm.MethodName)) ∈ lw_all := lw_g (lw_at lw_m6 39 rfl) rfl
theorem q1316 : (Jvm.Cond.code ({ cls := "jdk/internal/util/ArraysSupport", name := "utf16hashCode", desc := "(I[BII)I" } : Jvm.MethodName) prog_100_method_10_code (6 : Nat) (Option.some Jvm.ClassFile.FieldType.int)) ∈ lw_all := lw_g (lw_at lw_m6 40 rfl) rfl
theorem q1317 : (Jvm.Cond.fieldLink "jdk/internal/util/ArraysSupport" (106 : Nat) "jdk/internal/util/ArraysSupport" "JLA" "Ljdk/internal/access/JavaLangAccess;") ∈ lw_all := lw_g (lw_at lw_m6 41 rfl) rfl
theorem q1318 : (Jvm.Cond.laysStatic "jdk/internal/util/ArraysSupport" "JLA" "Ljdk/internal/access/JavaLangAccess;") ∈ lw_tbl := lw_at lw_m6 42 rfl
theorem q1319 : (Jvm.Cond.interfaceEntry "jdk/internal/util/ArraysSupport" (110 : Nat)) ∈ lw_tbl := lw_at lw_m6 43 rfl
theorem q1320 : (Jvm.Cond.methodLink "jdk/internal/util/ArraysSupport" (110 : Nat) ({ cls := "jdk/internal/access/JavaLangAccess", name := "getUTF16Char", desc := "([BI)C" } : Jvm.MethodName)) ∈ lw_all := lw_g (lw_at lw_m6 44 rfl) rfl
theorem q1330 : (Jvm.Cond.classLink "jdk/internal/util/ArraysSupport" (69 : Nat) "[C") ∈ lw_all := lw_g (lw_at lw_m6 54 rfl) rfl
theorem q1331 : (Jvm.Cond.methodLink "jdk/internal/util/ArraysSupport" (71 : Nat) ({ cls := "jdk/internal/util/ArraysSupport", name := "hashCode", desc := "(I[CII)I" } : Jvm.MethodName)) ∈ lw_all := lw_g (lw_at lw_m6 55 rfl) rfl
theorem q1332 : (Jvm.Cond.static ({ cls := "jdk/internal/util/ArraysSupport", name := "hashCode", desc := "(I[CII)I" } : Jvm.MethodName)) ∈ lw_all := lw_g (lw_at lw_m6 56 rfl) rfl
theorem q1333 : (Jvm.Cond.code ({ cls := "jdk/internal/util/ArraysSupport", name := "hashCode", desc := "(I[CII)I" } : Jvm.MethodName) prog_100_method_7_code (6 : Nat) (Option.some Jvm.ClassFile.FieldType.int)) ∈ lw_all := lw_g (lw_at lw_m6 57 rfl) rfl
theorem q1334 : (Jvm.Cond.methodLink "jdk/internal/util/ArraysSupport" (75 : Nat) ({ cls := "jdk/internal/util/ArraysSupport", name := "hashCode", desc := "(I[BII)I" } : Jvm.MethodName)) ∈ lw_all := lw_g (lw_at lw_m6 58 rfl) rfl
theorem q1335 : (Jvm.Cond.static ({ cls := "jdk/internal/util/ArraysSupport", name := "hashCode", desc := "(I[BII)I" } : Jvm.MethodName)) ∈ lw_all := lw_g (lw_at lw_m6 59 rfl) rfl
theorem q1336 : (Jvm.Cond.code ({ cls := "jdk/internal/util/ArraysSupport", name := "hashCode", desc := "(I[BII)I" } : Jvm.MethodName) prog_100_method_6_code (6 : Nat) (Option.some Jvm.ClassFile.FieldType.int)) ∈ lw_all := lw_g (lw_at lw_m6 60 rfl) rfl
theorem q1337 : (Jvm.Cond.classLink "jdk/internal/util/ArraysSupport" (77 : Nat) "[S") ∈ lw_all := lw_g (lw_at lw_m6 61 rfl) rfl
theorem q1338 : (Jvm.Cond.methodLink "jdk/internal/util/ArraysSupport" (79 : Nat) ({ cls := "jdk/internal/util/ArraysSupport", name := "hashCode", desc := "(I[SII)I" } : Jvm.MethodName)) ∈ lw_all := lw_g (lw_at lw_m6 62 rfl) rfl
theorem q1339 : (Jvm.Cond.static ({ cls := "jdk/internal/util/ArraysSupport", name := "hashCode", desc := "(I[SII)I" } : Jvm.MethodName)) ∈ lw_all := lw_g (lw_at lw_m6 63 rfl) rfl
theorem q1340 : (Jvm.Cond.code ({ cls := "jdk/internal/util/ArraysSupport", name := "hashCode", desc := "(I[SII)I" } : Jvm.MethodName) prog_100_method_8_code (6 : Nat) (Option.some Jvm.ClassFile.FieldType.int)) ∈ lw_all := lw_g (lw_at lw_m6 64 rfl) rfl
theorem q1341 : (Jvm.Cond.classLink "jdk/internal/util/ArraysSupport" (82 : Nat) "[I") ∈ lw_all := lw_g (lw_at lw_m6 65 rfl) rfl
theorem q1342 : (Jvm.Cond.methodLink "jdk/internal/util/ArraysSupport" (84 : Nat) ({ cls := "jdk/internal/util/ArraysSupport", name := "hashCode", desc := "(I[III)I" } : Jvm.MethodName)) ∈ lw_all := lw_g (lw_at lw_m6 66 rfl) rfl
theorem q1343 : (Jvm.Cond.static ({ cls := "jdk/internal/util/ArraysSupport", name := "hashCode", desc := "(I[III)I" } : Jvm.MethodName)) ∈ lw_all := lw_g (lw_at lw_m6 67 rfl) rfl
theorem q1344 : (Jvm.Cond.code ({ cls := "jdk/internal/util/ArraysSupport", name := "hashCode", desc := "(I[III)I" } : Jvm.MethodName) prog_100_method_9_code (6 : Nat) (Option.some Jvm.ClassFile.FieldType.int)) ∈ lw_all := lw_g (lw_at lw_m6 68 rfl) rfl
theorem q1345 : (Jvm.Cond.classLink "jdk/internal/util/ArraysSupport" (87 : Nat) "java/lang/IllegalArgumentException") ∈ lw_all := lw_g (lw_at lw_m6 69 rfl) rfl
theorem q1346 : (Jvm.Cond.classLink "jdk/internal/util/ArraysSupport" (89 : Nat) "java/lang/StringBuilder") ∈ lw_all := lw_g (lw_at lw_m6 70 rfl) rfl
theorem q1347 : (Jvm.Cond.methodLink "jdk/internal/util/ArraysSupport" (91 : Nat) ({ cls := "java/lang/StringBuilder", name := "<init>", desc := "()V" } : Jvm.MethodName)) ∈ lw_all := lw_g (lw_at lw_m6 71 rfl) rfl
theorem q1348 : (Jvm.Cond.stringRef "jdk/internal/util/ArraysSupport" (92 : Nat) "unrecognized basic type: ") ∈ lw_tbl := lw_at lw_m6 72 rfl
theorem q1349 : (Jvm.Cond.methodLink "jdk/internal/util/ArraysSupport" (94 : Nat) ({ cls := "java/lang/StringBuilder", name := "append", desc := "(Ljava/lang/String;)Ljava/lang/StringBuilder;" } : Jvm.MethodName)) ∈ lw_all := lw_g (lw_at lw_m6 73 rfl) rfl
theorem q1350 : (Jvm.Cond.methodLink "jdk/internal/util/ArraysSupport" (98 : Nat) ({ cls := "java/lang/StringBuilder", name := "append", desc := "(I)Ljava/lang/StringBuilder;" } : Jvm.MethodName)) ∈ lw_all := lw_g (lw_at lw_m6 74 rfl) rfl
theorem q1351 : (Jvm.Cond.methodLink "jdk/internal/util/ArraysSupport" (101 : Nat) ({ cls := "java/lang/StringBuilder", name := "toString", desc := "()Ljava/lang/String;" } : Jvm.MethodName)) ∈ lw_all := lw_g (lw_at lw_m6 75 rfl) rfl
theorem q1352 : (Jvm.Cond.methodLink "jdk/internal/util/ArraysSupport" (105 : Nat) ({ cls := "java/lang/IllegalArgumentException", name := "<init>", desc := "(Ljava/lang/String;)V" } : Jvm.MethodName)) ∈ lw_all := lw_g (lw_at lw_m6 76 rfl) rfl
theorem q1466 : (Jvm.Cond.static ({ cls := "jdk/internal/util/ArraysSupport", name := "mismatch", desc := "([B[BI)I" } : Jvm.MethodName)) ∈ lw_all := lw_g (lw_at lw_m6 190 rfl) rfl
theorem q1467 : (Jvm.Cond.code ({ cls := "jdk/internal/util/ArraysSupport", name := "mismatch", desc := "([B[BI)I" } : Jvm.MethodName) prog_100_method_13_code (4 : Nat) (Option.some Jvm.ClassFile.FieldType.int)) ∈ lw_all := lw_g (lw_at lw_m6 191 rfl) rfl
theorem q1468 : (Jvm.Cond.fieldLink "jdk/internal/util/ArraysSupport" (126 : Nat) "jdk/internal/misc/Unsafe" "ARRAY_BYTE_BASE_OFFSET" "I") ∈ lw_all := lw_g (lw_at lw_m6 192 rfl) rfl
theorem q1470 : (Jvm.Cond.fieldLink "jdk/internal/util/ArraysSupport" (129 : Nat) "jdk/internal/util/ArraysSupport" "LOG2_ARRAY_BYTE_INDEX_SCALE" "I") ∈ lw_all := lw_g (lw_at lw_m6 194 rfl) rfl
theorem q1471 : (Jvm.Cond.laysStatic "jdk/internal/util/ArraysSupport" "LOG2_ARRAY_BYTE_INDEX_SCALE" "I") ∈ lw_tbl := lw_at lw_m6 195 rfl
theorem q1472 : (Jvm.Cond.methodLink "jdk/internal/util/ArraysSupport" (122 : Nat) ({ cls := "jdk/internal/util/ArraysSupport", name := "vectorizedMismatch", desc := "(Ljava/lang/Object;JLjava/lang/Object;JII)I" } : Jvm.MethodName)) ∈ lw_all := lw_g (lw_at lw_m6 196 rfl) rfl
theorem q1473 : (Jvm.Cond.static ({ cls := "jdk/internal/util/ArraysSupport", name := "vectorizedMismatch", desc := "(Ljava/lang/Object;JLjava/lang/Object;JII)I" } : Jvm.MethodName)) ∈ lw_all := lw_g (lw_at lw_m6 197 rfl) rfl
theorem q1474 : (Jvm.Cond.code ({ cls := "jdk/internal/util/ArraysSupport", name := "vectorizedMismatch", desc := "(Ljava/lang/Object;JLjava/lang/Object;JII)I" } : Jvm.MethodName) prog_100_method_3_code (19 : Nat) (Option.some Jvm.ClassFile.FieldType.int)) ∈ lw_all := lw_g (lw_at lw_m6 198 rfl) rfl
theorem q1475 : (Jvm.Cond.fieldLink "jdk/internal/util/ArraysSupport" (20 : Nat) "jdk/internal/util/ArraysSupport" "LOG2_ARRAY_LONG_INDEX_SCALE" "I") ∈ lw_all := lw_g (lw_at lw_m6 199 rfl) rfl
theorem q1476 : (Jvm.Cond.laysStatic "jdk/internal/util/ArraysSupport" "LOG2_ARRAY_LONG_INDEX_SCALE" "I") ∈ lw_tbl := lw_at lw_m6 200 rfl
theorem q1477 : (Jvm.Cond.fieldLink "jdk/internal/util/ArraysSupport" (26 : Nat) "jdk/internal/util/ArraysSupport" "U" "Ljdk/internal/misc/Unsafe;") ∈ lw_all := lw_g (lw_at lw_m6 201 rfl) rfl
theorem q1478 : (Jvm.Cond.laysStatic "jdk/internal/util/ArraysSupport" "U" "Ljdk/internal/misc/Unsafe;") ∈ lw_tbl := lw_at lw_m6 202 rfl
theorem q1479 : (Jvm.Cond.methodLink "jdk/internal/util/ArraysSupport" (30 : Nat) ({ cls := "jdk/internal/misc/Unsafe", name := "getLongUnaligned", desc := "(Ljava/lang/Object;J)J" } : Jvm.MethodName)) ∈ lw_all := lw_g (lw_at lw_m6 203 rfl) rfl
theorem q1531 : (Jvm.Cond.fieldLink "jdk/internal/util/ArraysSupport" (36 : Nat) "jdk/internal/util/ArraysSupport" "BIG_ENDIAN" "Z") ∈ lw_all := lw_g (lw_at lw_m7 15 rfl) rfl
theorem q1532 : (Jvm.Cond.laysStatic "jdk/internal/util/ArraysSupport" "BIG_ENDIAN" "Z") ∈ lw_tbl := lw_at lw_m7 16 rfl
theorem q1533 : (Jvm.Cond.methodLink "jdk/internal/util/ArraysSupport" (40 : Nat) ({ cls := "java/lang/Long", name := "numberOfLeadingZeros", desc := "(J)I" } : Jvm.MethodName)) ∈ lw_all := lw_g (lw_at lw_m7 17 rfl) rfl
theorem q1539 : (Jvm.Cond.fieldLink "jdk/internal/util/ArraysSupport" (46 : Nat) "jdk/internal/util/ArraysSupport" "LOG2_BYTE_BIT_SIZE" "I") ∈ lw_all := lw_g (lw_at lw_m7 23 rfl) rfl
theorem q1540 : (Jvm.Cond.laysStatic "jdk/internal/util/ArraysSupport" "LOG2_BYTE_BIT_SIZE" "I") ∈ lw_tbl := lw_at lw_m7 24 rfl
theorem q1541 : (Jvm.Cond.methodLink "jdk/internal/util/ArraysSupport" (49 : Nat) ({ cls := "java/lang/Long", name := "numberOfTrailingZeros", desc := "(J)I" } : Jvm.MethodName)) ∈ lw_all := lw_g (lw_at lw_m7 25 rfl) rfl
theorem q1542 : (Jvm.Cond.fieldLink "jdk/internal/util/ArraysSupport" (51 : Nat) "jdk/internal/util/ArraysSupport" "LOG2_ARRAY_INT_INDEX_SCALE" "I") ∈ lw_all := lw_g (lw_at lw_m7 26 rfl) rfl
theorem q1543 : (Jvm.Cond.laysStatic "jdk/internal/util/ArraysSupport" "LOG2_ARRAY_INT_INDEX_SCALE" "I") ∈ lw_tbl := lw_at lw_m7 27 rfl
theorem q1544 : (Jvm.Cond.methodLink "jdk/internal/util/ArraysSupport" (54 : Nat) ({ cls := "jdk/internal/misc/Unsafe", name := "getIntUnaligned", desc := "(Ljava/lang/Object;J)I" } : Jvm.MethodName)) ∈ lw_all := lw_g (lw_at lw_m7 28 rfl) rfl
theorem q1561 : (Jvm.Cond.methodLink "jdk/internal/util/ArraysSupport" (58 : Nat) ({ cls := "java/lang/Integer", name := "numberOfLeadingZeros", desc := "(I)I" } : Jvm.MethodName)) ∈ lw_all := lw_g (lw_at lw_m7 45 rfl) rfl
theorem q1562 : (Jvm.Cond.methodLink "jdk/internal/util/ArraysSupport" (11 : Nat) ({ cls := "java/lang/Integer", name := "numberOfTrailingZeros", desc := "(I)I" } : Jvm.MethodName)) ∈ lw_all := lw_g (lw_at lw_m7 46 rfl) rfl
/-! java/lang/Math -/
def RJ12 : String := "java/lang/Math"
abbrev cJ12_max : ByteArray := prog_41_method_65_code
def yJ12_max : MethodName := ⟨RJ12, "max", "(II)I"⟩
def dkwJ12_max_0 : List UInt8 := [26, 27, 161, 0, 7, 26, 167, 0, 4, 27, 172]
abbrev dktJ12_max_0 : List UInt8 := dkwJ12_max_0 ++ []
theorem dksJ12_max_0 : cJ12_max.data.toList.drop 0 = dktJ12_max_0 := by decide +kernel
theorem dJ12_max_0 : decode cJ12_max 0 = .ok (.iload_n 0, 1) := dk_26 (dk_at dksJ12_max_0 0 rfl rfl)
theorem dJ12_max_1 : decode cJ12_max 1 = .ok (.iload_n 1, 1) := dk_27 (dk_at dksJ12_max_0 1 rfl rfl)
theorem dJ12_max_2 : decode cJ12_max 2 = .ok (.if_icmp .lt 7, 3) := dk_161 0 7 (dk_at dksJ12_max_0 2 rfl rfl)
theorem dJ12_max_5 : decode cJ12_max 5 = .ok (.iload_n 0, 1) := dk_26 (dk_at dksJ12_max_0 5 rfl rfl)
theorem dJ12_max_6 : decode cJ12_max 6 = .ok (.goto 4, 3) := dk_167 0 4 (dk_at dksJ12_max_0 6 rfl rfl)
theorem dJ12_max_9 : decode cJ12_max 9 = .ok (.iload_n 1, 1) := dk_27 (dk_at dksJ12_max_0 9 rfl rfl)
theorem dJ12_max_10 : decode cJ12_max 10 = .ok (.ireturn, 1) := dk_172 (dk_at dksJ12_max_0 10 rfl rfl)
abbrev cJ12_min : ByteArray := prog_41_method_69_code
def yJ12_min : MethodName := ⟨RJ12, "min", "(II)I"⟩
def dkwJ12_min_0 : List UInt8 := [26, 27, 163, 0, 7, 26, 167, 0, 4, 27, 172]
abbrev dktJ12_min_0 : List UInt8 := dkwJ12_min_0 ++ []
theorem dksJ12_min_0 : cJ12_min.data.toList.drop 0 = dktJ12_min_0 := by decide +kernel
theorem dJ12_min_0 : decode cJ12_min 0 = .ok (.iload_n 0, 1) := dk_26 (dk_at dksJ12_min_0 0 rfl rfl)
theorem dJ12_min_1 : decode cJ12_min 1 = .ok (.iload_n 1, 1) := dk_27 (dk_at dksJ12_min_0 1 rfl rfl)
theorem dJ12_min_2 : decode cJ12_min 2 = .ok (.if_icmp .gt 7, 3) := dk_163 0 7 (dk_at dksJ12_min_0 2 rfl rfl)
theorem dJ12_min_5 : decode cJ12_min 5 = .ok (.iload_n 0, 1) := dk_26 (dk_at dksJ12_min_0 5 rfl rfl)
theorem dJ12_min_6 : decode cJ12_min 6 = .ok (.goto 4, 3) := dk_167 0 4 (dk_at dksJ12_min_0 6 rfl rfl)
theorem dJ12_min_9 : decode cJ12_min 9 = .ok (.iload_n 1, 1) := dk_27 (dk_at dksJ12_min_0 9 rfl rfl)
theorem dJ12_min_10 : decode cJ12_min 10 = .ok (.ireturn, 1) := dk_172 (dk_at dksJ12_min_0 10 rfl rfl)
theorem q93 : (Jvm.Cond.initialized "java/lang/Math") ∈ lw_all := lw_g (lw_at lw_m1 17 rfl) rfl
theorem q441 : (Jvm.Cond.static ({ cls := "java/lang/Math", name := "max", desc := "(II)I" } : Jvm.MethodName)) ∈ lw_all := lw_g (lw_at lw_m2 125 rfl) rfl
theorem q442 : (Jvm.Cond.code ({ cls := "java/lang/Math", name := "max", desc := "(II)I" } : Jvm.MethodName) prog_41_method_65_code (2 : Nat) (Option.some Jvm.ClassFile.FieldType.int)) ∈ lw_all := lw_g (lw_at lw_m2 126 rfl) rfl
theorem q459 : (Jvm.Cond.static ({ cls := "java/lang/Math", name := "min", desc := "(II)I" } : Jvm.MethodName)) ∈ lw_all := lw_g (lw_at lw_m2 143 rfl) rfl
theorem q460 : (Jvm.Cond.code ({ cls := "java/lang/Math", name := "min", desc := "(II)I" } : Jvm.MethodName) prog_41_method_69_code (2 : Nat) (Option.some Jvm.ClassFile.FieldType.int)) ∈ lw_all := lw_g (lw_at lw_m2 144 rfl) rfl
/-! java/util/Arrays -/
def RJ13 : String := "java/util/Arrays"
abbrev cJ13_copyOf : ByteArray := prog_60_method_121_code
def yJ13_copyOf : MethodName := ⟨RJ13, "copyOf", "([BI)[B"⟩
def dkwJ13_copyOf_1 : List UInt8 := [27, 184, 1, 48, 184, 0, 150, 44, 176]
abbrev dktJ13_copyOf_1 : List UInt8 := dkwJ13_copyOf_1 ++ []
def dkwJ13_copyOf_0 : List UInt8 := [27, 42, 190, 160, 0, 11, 42, 182, 1, 54, 192, 1, 55, 176, 27, 188, 8, 77, 42, 3, 44, 3, 42, 190]
abbrev dktJ13_copyOf_0 : List UInt8 := dkwJ13_copyOf_0 ++ dktJ13_copyOf_1
theorem dksJ13_copyOf_0 : cJ13_copyOf.data.toList.drop 0 = dktJ13_copyOf_0 := by decide +kernel
theorem dksJ13_copyOf_1 : cJ13_copyOf.data.toList.drop 24 = dktJ13_copyOf_1 := dk_seg dksJ13_copyOf_0 24 rfl rfl
theorem dJ13_copyOf_0 : decode cJ13_copyOf 0 = .ok (.iload_n 1, 1) := dk_27 (dk_at dksJ13_copyOf_0 0 rfl rfl)
theorem dJ13_copyOf_1 : decode cJ13_copyOf 1 = .ok (.aload_n 0, 1) := dk_42 (dk_at dksJ13_copyOf_0 1 rfl rfl)
theorem dJ13_copyOf_2 : decode cJ13_copyOf 2 = .ok (.arraylength, 1) := dk_190 (dk_at dksJ13_copyOf_0 2 rfl rfl)
theorem dJ13_copyOf_3 : decode cJ13_copyOf 3 = .ok (.if_icmp .ne 11, 3) := dk_160 0 11 (dk_at dksJ13_copyOf_0 3 rfl rfl)
theorem dJ13_copyOf_6 : decode cJ13_copyOf 6 = .ok (.aload_n 0, 1) := dk_42 (dk_at dksJ13_copyOf_0 6 rfl rfl)
theorem dJ13_copyOf_7 : decode cJ13_copyOf 7 = .ok (.invokevirtual 310, 3) := dk_182 1 54 (dk_at dksJ13_copyOf_0 7 rfl rfl)
theorem dJ13_copyOf_10 : decode cJ13_copyOf 10 = .ok (.checkcast 311, 3) := dk_192 1 55 (dk_at dksJ13_copyOf_0 10 rfl rfl)
theorem dJ13_copyOf_13 : decode cJ13_copyOf 13 = .ok (.areturn, 1) := dk_176 (dk_at dksJ13_copyOf_0 13 rfl rfl)
theorem dJ13_copyOf_14 : decode cJ13_copyOf 14 = .ok (.iload_n 1, 1) := dk_27 (dk_at dksJ13_copyOf_0 14 rfl rfl)
theorem dJ13_copyOf_15 : decode cJ13_copyOf 15 = .ok (.newarray .byte, 2) := dk_188_8 (dk_at dksJ13_copyOf_0 15 rfl rfl)
theorem dJ13_copyOf_17 : decode cJ13_copyOf 17 = .ok (.astore_n 2, 1) := dk_77 (dk_at dksJ13_copyOf_0 17 rfl rfl)
theorem dJ13_copyOf_18 : decode cJ13_copyOf 18 = .ok (.aload_n 0, 1) := dk_42 (dk_at dksJ13_copyOf_0 18 rfl rfl)
theorem dJ13_copyOf_19 : decode cJ13_copyOf 19 = .ok (.iconst 0, 1) := dk_3 (dk_at dksJ13_copyOf_0 19 rfl rfl)
theorem dJ13_copyOf_20 : decode cJ13_copyOf 20 = .ok (.aload_n 2, 1) := dk_44 (dk_at dksJ13_copyOf_0 20 rfl rfl)
theorem dJ13_copyOf_21 : decode cJ13_copyOf 21 = .ok (.iconst 0, 1) := dk_3 (dk_at dksJ13_copyOf_0 21 rfl rfl)
theorem dJ13_copyOf_22 : decode cJ13_copyOf 22 = .ok (.aload_n 0, 1) := dk_42 (dk_at dksJ13_copyOf_0 22 rfl rfl)
theorem dJ13_copyOf_23 : decode cJ13_copyOf 23 = .ok (.arraylength, 1) := dk_190 (dk_at dksJ13_copyOf_0 23 rfl rfl)
theorem dJ13_copyOf_24 : decode cJ13_copyOf 24 = .ok (.iload_n 1, 1) := dk_27 (dk_at dksJ13_copyOf_1 0 rfl rfl)
theorem dJ13_copyOf_25 : decode cJ13_copyOf 25 = .ok (.invokestatic 304, 3) := dk_184 1 48 (dk_at dksJ13_copyOf_1 1 rfl rfl)
theorem dJ13_copyOf_28 : decode cJ13_copyOf 28 = .ok (.invokestatic 150, 3) := dk_184 0 150 (dk_at dksJ13_copyOf_1 4 rfl rfl)
theorem dJ13_copyOf_31 : decode cJ13_copyOf 31 = .ok (.aload_n 2, 1) := dk_44 (dk_at dksJ13_copyOf_1 7 rfl rfl)
theorem dJ13_copyOf_32 : decode cJ13_copyOf 32 = .ok (.areturn, 1) := dk_176 (dk_at dksJ13_copyOf_1 8 rfl rfl)
abbrev cJ13_copyOfRange : ByteArray := prog_60_method_132_code
def yJ13_copyOfRange : MethodName := ⟨RJ13, "copyOfRange", "([BII)[B"⟩
def dkwJ13_copyOfRange_1 : List UInt8 := [176]
abbrev dktJ13_copyOfRange_1 : List UInt8 := dkwJ13_copyOfRange_1 ++ []
def dkwJ13_copyOfRange_0 : List UInt8 := [27, 154, 0, 9, 28, 42, 190, 159, 0, 10, 42, 27, 28, 184, 1, 83, 176, 42, 182, 1, 54, 192, 1, 55]
abbrev dktJ13_copyOfRange_0 : List UInt8 := dkwJ13_copyOfRange_0 ++ dktJ13_copyOfRange_1
theorem dksJ13_copyOfRange_0 : cJ13_copyOfRange.data.toList.drop 0 = dktJ13_copyOfRange_0 := by decide +kernel
theorem dksJ13_copyOfRange_1 : cJ13_copyOfRange.data.toList.drop 24 = dktJ13_copyOfRange_1 := dk_seg dksJ13_copyOfRange_0 24 rfl rfl
theorem dJ13_copyOfRange_0 : decode cJ13_copyOfRange 0 = .ok (.iload_n 1, 1) := dk_27 (dk_at dksJ13_copyOfRange_0 0 rfl rfl)
theorem dJ13_copyOfRange_1 : decode cJ13_copyOfRange 1 = .ok (.ifCond .ne 9, 3) := dk_154 0 9 (dk_at dksJ13_copyOfRange_0 1 rfl rfl)
theorem dJ13_copyOfRange_4 : decode cJ13_copyOfRange 4 = .ok (.iload_n 2, 1) := dk_28 (dk_at dksJ13_copyOfRange_0 4 rfl rfl)
theorem dJ13_copyOfRange_5 : decode cJ13_copyOfRange 5 = .ok (.aload_n 0, 1) := dk_42 (dk_at dksJ13_copyOfRange_0 5 rfl rfl)
theorem dJ13_copyOfRange_6 : decode cJ13_copyOfRange 6 = .ok (.arraylength, 1) := dk_190 (dk_at dksJ13_copyOfRange_0 6 rfl rfl)
theorem dJ13_copyOfRange_7 : decode cJ13_copyOfRange 7 = .ok (.if_icmp .eq 10, 3) := dk_159 0 10 (dk_at dksJ13_copyOfRange_0 7 rfl rfl)
theorem dJ13_copyOfRange_10 : decode cJ13_copyOfRange 10 = .ok (.aload_n 0, 1) := dk_42 (dk_at dksJ13_copyOfRange_0 10 rfl rfl)
theorem dJ13_copyOfRange_11 : decode cJ13_copyOfRange 11 = .ok (.iload_n 1, 1) := dk_27 (dk_at dksJ13_copyOfRange_0 11 rfl rfl)
theorem dJ13_copyOfRange_12 : decode cJ13_copyOfRange 12 = .ok (.iload_n 2, 1) := dk_28 (dk_at dksJ13_copyOfRange_0 12 rfl rfl)
theorem dJ13_copyOfRange_13 : decode cJ13_copyOfRange 13 = .ok (.invokestatic 339, 3) := dk_184 1 83 (dk_at dksJ13_copyOfRange_0 13 rfl rfl)
theorem dJ13_copyOfRange_16 : decode cJ13_copyOfRange 16 = .ok (.areturn, 1) := dk_176 (dk_at dksJ13_copyOfRange_0 16 rfl rfl)
theorem dJ13_copyOfRange_17 : decode cJ13_copyOfRange 17 = .ok (.aload_n 0, 1) := dk_42 (dk_at dksJ13_copyOfRange_0 17 rfl rfl)
theorem dJ13_copyOfRange_18 : decode cJ13_copyOfRange 18 = .ok (.invokevirtual 310, 3) := dk_182 1 54 (dk_at dksJ13_copyOfRange_0 18 rfl rfl)
theorem dJ13_copyOfRange_21 : decode cJ13_copyOfRange 21 = .ok (.checkcast 311, 3) := dk_192 1 55 (dk_at dksJ13_copyOfRange_0 21 rfl rfl)
theorem dJ13_copyOfRange_24 : decode cJ13_copyOfRange 24 = .ok (.areturn, 1) := dk_176 (dk_at dksJ13_copyOfRange_1 0 rfl rfl)
abbrev cJ13_copyOfRangeByte : ByteArray := prog_60_method_133_code
def yJ13_copyOfRangeByte : MethodName := ⟨RJ13, "copyOfRangeByte", "([BII)[B"⟩
def dkwJ13_copyOfRangeByte_1 : List UInt8 := [184, 1, 48, 184, 0, 150, 25, 4, 176]
abbrev dktJ13_copyOfRangeByte_1 : List UInt8 := dkwJ13_copyOfRangeByte_1 ++ []
def dkwJ13_copyOfRangeByte_0 : List UInt8 := [27, 28, 184, 1, 87, 28, 27, 100, 62, 29, 188, 8, 58, 4, 42, 27, 25, 4, 3, 42, 190, 27, 100, 29]
abbrev dktJ13_copyOfRangeByte_0 : List UInt8 := dkwJ13_copyOfRangeByte_0 ++ dktJ13_copyOfRangeByte_1
theorem dksJ13_copyOfRangeByte_0 : cJ13_copyOfRangeByte.data.toList.drop 0 = dktJ13_copyOfRangeByte_0 := by decide +kernel
theorem dksJ13_copyOfRangeByte_1 : cJ13_copyOfRangeByte.data.toList.drop 24 = dktJ13_copyOfRangeByte_1 := dk_seg dksJ13_copyOfRangeByte_0 24 rfl rfl
theorem dJ13_copyOfRangeByte_0 : decode cJ13_copyOfRangeByte 0 = .ok (.iload_n 1, 1) := dk_27 (dk_at dksJ13_copyOfRangeByte_0 0 rfl rfl)
theorem dJ13_copyOfRangeByte_1 : decode cJ13_copyOfRangeByte 1 = .ok (.iload_n 2, 1) := dk_28 (dk_at dksJ13_copyOfRangeByte_0 1 rfl rfl)
theorem dJ13_copyOfRangeByte_2 : decode cJ13_copyOfRangeByte 2 = .ok (.invokestatic 343, 3) := dk_184 1 87 (dk_at dksJ13_copyOfRangeByte_0 2 rfl rfl)
theorem dJ13_copyOfRangeByte_5 : decode cJ13_copyOfRangeByte 5 = .ok (.iload_n 2, 1) := dk_28 (dk_at dksJ13_copyOfRangeByte_0 5 rfl rfl)
theorem dJ13_copyOfRangeByte_6 : decode cJ13_copyOfRangeByte 6 = .ok (.iload_n 1, 1) := dk_27 (dk_at dksJ13_copyOfRangeByte_0 6 rfl rfl)
theorem dJ13_copyOfRangeByte_7 : decode cJ13_copyOfRangeByte 7 = .ok (.isub, 1) := dk_100 (dk_at dksJ13_copyOfRangeByte_0 7 rfl rfl)
theorem dJ13_copyOfRangeByte_8 : decode cJ13_copyOfRangeByte 8 = .ok (.istore_n 3, 1) := dk_62 (dk_at dksJ13_copyOfRangeByte_0 8 rfl rfl)
theorem dJ13_copyOfRangeByte_9 : decode cJ13_copyOfRangeByte 9 = .ok (.iload_n 3, 1) := dk_29 (dk_at dksJ13_copyOfRangeByte_0 9 rfl rfl)
theorem dJ13_copyOfRangeByte_10 : decode cJ13_copyOfRangeByte 10 = .ok (.newarray .byte, 2) := dk_188_8 (dk_at dksJ13_copyOfRangeByte_0 10 rfl rfl)
theorem dJ13_copyOfRangeByte_12 : decode cJ13_copyOfRangeByte 12 = .ok (.astore 4, 2) := dk_58 4 (dk_at dksJ13_copyOfRangeByte_0 12 rfl rfl)
theorem dJ13_copyOfRangeByte_14 : decode cJ13_copyOfRangeByte 14 = .ok (.aload_n 0, 1) := dk_42 (dk_at dksJ13_copyOfRangeByte_0 14 rfl rfl)
theorem dJ13_copyOfRangeByte_15 : decode cJ13_copyOfRangeByte 15 = .ok (.iload_n 1, 1) := dk_27 (dk_at dksJ13_copyOfRangeByte_0 15 rfl rfl)
theorem dJ13_copyOfRangeByte_16 : decode cJ13_copyOfRangeByte 16 = .ok (.aload 4, 2) := dk_25 4 (dk_at dksJ13_copyOfRangeByte_0 16 rfl rfl)
theorem dJ13_copyOfRangeByte_18 : decode cJ13_copyOfRangeByte 18 = .ok (.iconst 0, 1) := dk_3 (dk_at dksJ13_copyOfRangeByte_0 18 rfl rfl)
theorem dJ13_copyOfRangeByte_19 : decode cJ13_copyOfRangeByte 19 = .ok (.aload_n 0, 1) := dk_42 (dk_at dksJ13_copyOfRangeByte_0 19 rfl rfl)
theorem dJ13_copyOfRangeByte_20 : decode cJ13_copyOfRangeByte 20 = .ok (.arraylength, 1) := dk_190 (dk_at dksJ13_copyOfRangeByte_0 20 rfl rfl)
theorem dJ13_copyOfRangeByte_21 : decode cJ13_copyOfRangeByte 21 = .ok (.iload_n 1, 1) := dk_27 (dk_at dksJ13_copyOfRangeByte_0 21 rfl rfl)
theorem dJ13_copyOfRangeByte_22 : decode cJ13_copyOfRangeByte 22 = .ok (.isub, 1) := dk_100 (dk_at dksJ13_copyOfRangeByte_0 22 rfl rfl)
theorem dJ13_copyOfRangeByte_23 : decode cJ13_copyOfRangeByte 23 = .ok (.iload_n 3, 1) := dk_29 (dk_at dksJ13_copyOfRangeByte_0 23 rfl rfl)
theorem dJ13_copyOfRangeByte_24 : decode cJ13_copyOfRangeByte 24 = .ok (.invokestatic 304, 3) := dk_184 1 48 (dk_at dksJ13_copyOfRangeByte_1 0 rfl rfl)
theorem dJ13_copyOfRangeByte_27 : decode cJ13_copyOfRangeByte 27 = .ok (.invokestatic 150, 3) := dk_184 0 150 (dk_at dksJ13_copyOfRangeByte_1 3 rfl rfl)
theorem dJ13_copyOfRangeByte_30 : decode cJ13_copyOfRangeByte 30 = .ok (.aload 4, 2) := dk_25 4 (dk_at dksJ13_copyOfRangeByte_1 6 rfl rfl)
theorem dJ13_copyOfRangeByte_32 : decode cJ13_copyOfRangeByte 32 = .ok (.areturn, 1) := dk_176 (dk_at dksJ13_copyOfRangeByte_1 8 rfl rfl)
abbrev cJ13_checkLength : ByteArray := prog_60_method_131_code
def yJ13_checkLength : MethodName := ⟨RJ13, "checkLength", "(II)V"⟩
def dkwJ13_checkLength_1 : List UInt8 := [182, 0, 50, 27, 182, 0, 54, 182, 0, 61, 183, 0, 65, 191, 177]
abbrev dktJ13_checkLength_1 : List UInt8 := dkwJ13_checkLength_1 ++ []
def dkwJ13_checkLength_0 : List UInt8 := [27, 26, 162, 0, 35, 187, 0, 43, 89, 187, 0, 45, 89, 183, 0, 47, 26, 182, 0, 54, 19, 1, 81]
abbrev dktJ13_checkLength_0 : List UInt8 := dkwJ13_checkLength_0 ++ dktJ13_checkLength_1
theorem dksJ13_checkLength_0 : cJ13_checkLength.data.toList.drop 0 = dktJ13_checkLength_0 := by decide +kernel
theorem dksJ13_checkLength_1 : cJ13_checkLength.data.toList.drop 23 = dktJ13_checkLength_1 := dk_seg dksJ13_checkLength_0 23 rfl rfl
theorem dJ13_checkLength_0 : decode cJ13_checkLength 0 = .ok (.iload_n 1, 1) := dk_27 (dk_at dksJ13_checkLength_0 0 rfl rfl)
theorem dJ13_checkLength_1 : decode cJ13_checkLength 1 = .ok (.iload_n 0, 1) := dk_26 (dk_at dksJ13_checkLength_0 1 rfl rfl)
theorem dJ13_checkLength_2 : decode cJ13_checkLength 2 = .ok (.if_icmp .ge 35, 3) := dk_162 0 35 (dk_at dksJ13_checkLength_0 2 rfl rfl)
theorem dJ13_checkLength_5 : decode cJ13_checkLength 5 = .ok (.new 43, 3) := dk_187 0 43 (dk_at dksJ13_checkLength_0 5 rfl rfl)
theorem dJ13_checkLength_8 : decode cJ13_checkLength 8 = .ok (.dup, 1) := dk_89 (dk_at dksJ13_checkLength_0 8 rfl rfl)
theorem dJ13_checkLength_9 : decode cJ13_checkLength 9 = .ok (.new 45, 3) := dk_187 0 45 (dk_at dksJ13_checkLength_0 9 rfl rfl)
theorem dJ13_checkLength_12 : decode cJ13_checkLength 12 = .ok (.dup, 1) := dk_89 (dk_at dksJ13_checkLength_0 12 rfl rfl)
theorem dJ13_checkLength_13 : decode cJ13_checkLength 13 = .ok (.invokespecial 47, 3) := dk_183 0 47 (dk_at dksJ13_checkLength_0 13 rfl rfl)
theorem dJ13_checkLength_16 : decode cJ13_checkLength 16 = .ok (.iload_n 0, 1) := dk_26 (dk_at dksJ13_checkLength_0 16 rfl rfl)
theorem dJ13_checkLength_17 : decode cJ13_checkLength 17 = .ok (.invokevirtual 54, 3) := dk_182 0 54 (dk_at dksJ13_checkLength_0 17 rfl rfl)
theorem dJ13_checkLength_20 : decode cJ13_checkLength 20 = .ok (.ldc_w 337, 3) := dk_19 1 81 (dk_at dksJ13_checkLength_0 20 rfl rfl)
theorem dJ13_checkLength_23 : decode cJ13_checkLength 23 = .ok (.invokevirtual 50, 3) := dk_182 0 50 (dk_at dksJ13_checkLength_1 0 rfl rfl)
theorem dJ13_checkLength_26 : decode cJ13_checkLength 26 = .ok (.iload_n 1, 1) := dk_27 (dk_at dksJ13_checkLength_1 3 rfl rfl)
theorem dJ13_checkLength_27 : decode cJ13_checkLength 27 = .ok (.invokevirtual 54, 3) := dk_182 0 54 (dk_at dksJ13_checkLength_1 4 rfl rfl)
theorem dJ13_checkLength_30 : decode cJ13_checkLength 30 = .ok (.invokevirtual 61, 3) := dk_182 0 61 (dk_at dksJ13_checkLength_1 7 rfl rfl)
theorem dJ13_checkLength_33 : decode cJ13_checkLength 33 = .ok (.invokespecial 65, 3) := dk_183 0 65 (dk_at dksJ13_checkLength_1 10 rfl rfl)
theorem dJ13_checkLength_36 : decode cJ13_checkLength 36 = .ok (.athrow, 1) := dk_191 (dk_at dksJ13_checkLength_1 13 rfl rfl)
theorem dJ13_checkLength_37 : decode cJ13_checkLength 37 = .ok (.return_, 1) := dk_177 (dk_at dksJ13_checkLength_1 14 rfl rfl)
abbrev cJ13_copyOf_2 : ByteArray := prog_60_method_119_code
def yJ13_copyOf_2 : MethodName := ⟨RJ13, "copyOf", "([Ljava/lang/Object;I)[Ljava/lang/Object;"⟩
def dkwJ13_copyOf_2_0 : List UInt8 := [42, 27, 42, 182, 0, 86, 184, 1, 44, 176]
abbrev dktJ13_copyOf_2_0 : List UInt8 := dkwJ13_copyOf_2_0 ++ []
theorem dksJ13_copyOf_2_0 : cJ13_copyOf_2.data.toList.drop 0 = dktJ13_copyOf_2_0 := by decide +kernel
theorem dJ13_copyOf_2_0 : decode cJ13_copyOf_2 0 = .ok (.aload_n 0, 1) := dk_42 (dk_at dksJ13_copyOf_2_0 0 rfl rfl)
theorem dJ13_copyOf_2_1 : decode cJ13_copyOf_2 1 = .ok (.iload_n 1, 1) := dk_27 (dk_at dksJ13_copyOf_2_0 1 rfl rfl)
theorem dJ13_copyOf_2_2 : decode cJ13_copyOf_2 2 = .ok (.aload_n 0, 1) := dk_42 (dk_at dksJ13_copyOf_2_0 2 rfl rfl)
theorem dJ13_copyOf_2_3 : decode cJ13_copyOf_2 3 = .ok (.invokevirtual 86, 3) := dk_182 0 86 (dk_at dksJ13_copyOf_2_0 3 rfl rfl)
theorem dJ13_copyOf_2_6 : decode cJ13_copyOf_2 6 = .ok (.invokestatic 300, 3) := dk_184 1 44 (dk_at dksJ13_copyOf_2_0 6 rfl rfl)
theorem dJ13_copyOf_2_9 : decode cJ13_copyOf_2 9 = .ok (.areturn, 1) := dk_176 (dk_at dksJ13_copyOf_2_0 9 rfl rfl)
abbrev cJ13_copyOf_3 : ByteArray := prog_60_method_120_code
def yJ13_copyOf_3 : MethodName := ⟨RJ13, "copyOf", "([Ljava/lang/Object;ILjava/lang/Class;)[Ljava/lang/Object;"⟩
def dkwJ13_copyOf_3_1 : List UInt8 := [78, 42, 3, 45, 3, 42, 190, 27, 184, 1, 48, 184, 0, 150, 45, 176]
abbrev dktJ13_copyOf_3_1 : List UInt8 := dkwJ13_copyOf_3_1 ++ []
def dkwJ13_copyOf_3_0 : List UInt8 := [44, 18, 110, 166, 0, 10, 27, 189, 0, 2, 167, 0, 14, 44, 182, 0, 90, 27, 184, 0, 95, 192, 0, 110]
abbrev dktJ13_copyOf_3_0 : List UInt8 := dkwJ13_copyOf_3_0 ++ dktJ13_copyOf_3_1
theorem dksJ13_copyOf_3_0 : cJ13_copyOf_3.data.toList.drop 0 = dktJ13_copyOf_3_0 := by decide +kernel
theorem dksJ13_copyOf_3_1 : cJ13_copyOf_3.data.toList.drop 24 = dktJ13_copyOf_3_1 := dk_seg dksJ13_copyOf_3_0 24 rfl rfl
theorem dJ13_copyOf_3_0 : decode cJ13_copyOf_3 0 = .ok (.aload_n 2, 1) := dk_44 (dk_at dksJ13_copyOf_3_0 0 rfl rfl)
theorem dJ13_copyOf_3_1 : decode cJ13_copyOf_3 1 = .ok (.ldc 110, 2) := dk_18 110 (dk_at dksJ13_copyOf_3_0 1 rfl rfl)
theorem dJ13_copyOf_3_3 : decode cJ13_copyOf_3 3 = .ok (.if_acmp .ne 10, 3) := dk_166 0 10 (dk_at dksJ13_copyOf_3_0 3 rfl rfl)
theorem dJ13_copyOf_3_6 : decode cJ13_copyOf_3 6 = .ok (.iload_n 1, 1) := dk_27 (dk_at dksJ13_copyOf_3_0 6 rfl rfl)
theorem dJ13_copyOf_3_7 : decode cJ13_copyOf_3 7 = .ok (.anewarray 2, 3) := dk_189 0 2 (dk_at dksJ13_copyOf_3_0 7 rfl rfl)
theorem dJ13_copyOf_3_10 : decode cJ13_copyOf_3 10 = .ok (.goto 14, 3) := dk_167 0 14 (dk_at dksJ13_copyOf_3_0 10 rfl rfl)
theorem dJ13_copyOf_3_13 : decode cJ13_copyOf_3 13 = .ok (.aload_n 2, 1) := dk_44 (dk_at dksJ13_copyOf_3_0 13 rfl rfl)
theorem dJ13_copyOf_3_14 : decode cJ13_copyOf_3 14 = .ok (.invokevirtual 90, 3) := dk_182 0 90 (dk_at dksJ13_copyOf_3_0 14 rfl rfl)
theorem dJ13_copyOf_3_17 : decode cJ13_copyOf_3 17 = .ok (.iload_n 1, 1) := dk_27 (dk_at dksJ13_copyOf_3_0 17 rfl rfl)
theorem dJ13_copyOf_3_18 : decode cJ13_copyOf_3 18 = .ok (.invokestatic 95, 3) := dk_184 0 95 (dk_at dksJ13_copyOf_3_0 18 rfl rfl)
theorem dJ13_copyOf_3_21 : decode cJ13_copyOf_3 21 = .ok (.checkcast 110, 3) := dk_192 0 110 (dk_at dksJ13_copyOf_3_0 21 rfl rfl)
theorem dJ13_copyOf_3_24 : decode cJ13_copyOf_3 24 = .ok (.astore_n 3, 1) := dk_78 (dk_at dksJ13_copyOf_3_1 0 rfl rfl)
theorem dJ13_copyOf_3_25 : decode cJ13_copyOf_3 25 = .ok (.aload_n 0, 1) := dk_42 (dk_at dksJ13_copyOf_3_1 1 rfl rfl)
theorem dJ13_copyOf_3_26 : decode cJ13_copyOf_3 26 = .ok (.iconst 0, 1) := dk_3 (dk_at dksJ13_copyOf_3_1 2 rfl rfl)
theorem dJ13_copyOf_3_27 : decode cJ13_copyOf_3 27 = .ok (.aload_n 3, 1) := dk_45 (dk_at dksJ13_copyOf_3_1 3 rfl rfl)
theorem dJ13_copyOf_3_28 : decode cJ13_copyOf_3 28 = .ok (.iconst 0, 1) := dk_3 (dk_at dksJ13_copyOf_3_1 4 rfl rfl)
theorem dJ13_copyOf_3_29 : decode cJ13_copyOf_3 29 = .ok (.aload_n 0, 1) := dk_42 (dk_at dksJ13_copyOf_3_1 5 rfl rfl)
theorem dJ13_copyOf_3_30 : decode cJ13_copyOf_3 30 = .ok (.arraylength, 1) := dk_190 (dk_at dksJ13_copyOf_3_1 6 rfl rfl)
theorem dJ13_copyOf_3_31 : decode cJ13_copyOf_3 31 = .ok (.iload_n 1, 1) := dk_27 (dk_at dksJ13_copyOf_3_1 7 rfl rfl)
theorem dJ13_copyOf_3_32 : decode cJ13_copyOf_3 32 = .ok (.invokestatic 304, 3) := dk_184 1 48 (dk_at dksJ13_copyOf_3_1 8 rfl rfl)
theorem dJ13_copyOf_3_35 : decode cJ13_copyOf_3 35 = .ok (.invokestatic 150, 3) := dk_184 0 150 (dk_at dksJ13_copyOf_3_1 11 rfl rfl)
theorem dJ13_copyOf_3_38 : decode cJ13_copyOf_3 38 = .ok (.aload_n 3, 1) := dk_45 (dk_at dksJ13_copyOf_3_1 14 rfl rfl)
theorem dJ13_copyOf_3_39 : decode cJ13_copyOf_3 39 = .ok (.areturn, 1) := dk_176 (dk_at dksJ13_copyOf_3_1 15 rfl rfl)
abbrev cJ13_copyOf_4 : ByteArray := prog_60_method_124_code
def yJ13_copyOf_4 : MethodName := ⟨RJ13, "copyOf", "([JI)[J"⟩
def dkwJ13_copyOf_4_1 : List UInt8 := [27, 184, 1, 48, 184, 0, 150, 44, 176]
abbrev dktJ13_copyOf_4_1 : List UInt8 := dkwJ13_copyOf_4_1 ++ []
def dkwJ13_copyOf_4_0 : List UInt8 := [27, 42, 190, 160, 0, 11, 42, 182, 1, 63, 192, 1, 64, 176, 27, 188, 11, 77, 42, 3, 44, 3, 42, 190]
abbrev dktJ13_copyOf_4_0 : List UInt8 := dkwJ13_copyOf_4_0 ++ dktJ13_copyOf_4_1
theorem dksJ13_copyOf_4_0 : cJ13_copyOf_4.data.toList.drop 0 = dktJ13_copyOf_4_0 := by decide +kernel
theorem dksJ13_copyOf_4_1 : cJ13_copyOf_4.data.toList.drop 24 = dktJ13_copyOf_4_1 := dk_seg dksJ13_copyOf_4_0 24 rfl rfl
theorem dJ13_copyOf_4_0 : decode cJ13_copyOf_4 0 = .ok (.iload_n 1, 1) := dk_27 (dk_at dksJ13_copyOf_4_0 0 rfl rfl)
theorem dJ13_copyOf_4_1 : decode cJ13_copyOf_4 1 = .ok (.aload_n 0, 1) := dk_42 (dk_at dksJ13_copyOf_4_0 1 rfl rfl)
theorem dJ13_copyOf_4_2 : decode cJ13_copyOf_4 2 = .ok (.arraylength, 1) := dk_190 (dk_at dksJ13_copyOf_4_0 2 rfl rfl)
theorem dJ13_copyOf_4_3 : decode cJ13_copyOf_4 3 = .ok (.if_icmp .ne 11, 3) := dk_160 0 11 (dk_at dksJ13_copyOf_4_0 3 rfl rfl)
theorem dJ13_copyOf_4_6 : decode cJ13_copyOf_4 6 = .ok (.aload_n 0, 1) := dk_42 (dk_at dksJ13_copyOf_4_0 6 rfl rfl)
theorem dJ13_copyOf_4_7 : decode cJ13_copyOf_4 7 = .ok (.invokevirtual 319, 3) := dk_182 1 63 (dk_at dksJ13_copyOf_4_0 7 rfl rfl)
theorem dJ13_copyOf_4_10 : decode cJ13_copyOf_4 10 = .ok (.checkcast 320, 3) := dk_192 1 64 (dk_at dksJ13_copyOf_4_0 10 rfl rfl)
theorem dJ13_copyOf_4_13 : decode cJ13_copyOf_4 13 = .ok (.areturn, 1) := dk_176 (dk_at dksJ13_copyOf_4_0 13 rfl rfl)
theorem dJ13_copyOf_4_14 : decode cJ13_copyOf_4 14 = .ok (.iload_n 1, 1) := dk_27 (dk_at dksJ13_copyOf_4_0 14 rfl rfl)
theorem dJ13_copyOf_4_15 : decode cJ13_copyOf_4 15 = .ok (.newarray .long, 2) := dk_188_11 (dk_at dksJ13_copyOf_4_0 15 rfl rfl)
theorem dJ13_copyOf_4_17 : decode cJ13_copyOf_4 17 = .ok (.astore_n 2, 1) := dk_77 (dk_at dksJ13_copyOf_4_0 17 rfl rfl)
theorem dJ13_copyOf_4_18 : decode cJ13_copyOf_4 18 = .ok (.aload_n 0, 1) := dk_42 (dk_at dksJ13_copyOf_4_0 18 rfl rfl)
theorem dJ13_copyOf_4_19 : decode cJ13_copyOf_4 19 = .ok (.iconst 0, 1) := dk_3 (dk_at dksJ13_copyOf_4_0 19 rfl rfl)
theorem dJ13_copyOf_4_20 : decode cJ13_copyOf_4 20 = .ok (.aload_n 2, 1) := dk_44 (dk_at dksJ13_copyOf_4_0 20 rfl rfl)
theorem dJ13_copyOf_4_21 : decode cJ13_copyOf_4 21 = .ok (.iconst 0, 1) := dk_3 (dk_at dksJ13_copyOf_4_0 21 rfl rfl)
theorem dJ13_copyOf_4_22 : decode cJ13_copyOf_4 22 = .ok (.aload_n 0, 1) := dk_42 (dk_at dksJ13_copyOf_4_0 22 rfl rfl)
theorem dJ13_copyOf_4_23 : decode cJ13_copyOf_4 23 = .ok (.arraylength, 1) := dk_190 (dk_at dksJ13_copyOf_4_0 23 rfl rfl)
theorem dJ13_copyOf_4_24 : decode cJ13_copyOf_4 24 = .ok (.iload_n 1, 1) := dk_27 (dk_at dksJ13_copyOf_4_1 0 rfl rfl)
theorem dJ13_copyOf_4_25 : decode cJ13_copyOf_4 25 = .ok (.invokestatic 304, 3) := dk_184 1 48 (dk_at dksJ13_copyOf_4_1 1 rfl rfl)
theorem dJ13_copyOf_4_28 : decode cJ13_copyOf_4 28 = .ok (.invokestatic 150, 3) := dk_184 0 150 (dk_at dksJ13_copyOf_4_1 4 rfl rfl)
theorem dJ13_copyOf_4_31 : decode cJ13_copyOf_4 31 = .ok (.aload_n 2, 1) := dk_44 (dk_at dksJ13_copyOf_4_1 7 rfl rfl)
theorem dJ13_copyOf_4_32 : decode cJ13_copyOf_4 32 = .ok (.areturn, 1) := dk_176 (dk_at dksJ13_copyOf_4_1 8 rfl rfl)
theorem q94 : (Jvm.Cond.initialized "java/util/Arrays") ∈ lw_all := lw_g (lw_at lw_m1 18 rfl) rfl
theorem q449 : (Jvm.Cond.static ({ cls := "java/util/Arrays", name := "copyOf", desc := "([BI)[B" } : Jvm.MethodName)) ∈ lw_all := lw_g (lw_at lw_m2 133 rfl) rfl
theorem q450 : (Jvm.Cond.code ({ cls := "java/util/Arrays", name := "copyOf", desc := "([BI)[B" } : Jvm.MethodName) prog_60_method_121_code (3 : Nat) (Option.some (Jvm.ClassFile.FieldType.array Jvm.ClassFile.FieldType.byte))) ∈ lw_all := lw_g (lw_at lw_m2 134 rfl) rfl
theorem q451 : (Jvm.Cond.methodLink "java/util/Arrays" (310 : Nat) ({ cls := "[B", name := "clone", desc := "()Ljava/lang/Object;" } : Jvm.MethodName)) ∈ lw_all := lw_g (lw_at lw_m2 135 rfl) rfl
theorem q457 : (Jvm.Cond.classLink "java/util/Arrays" (311 : Nat) "[B") ∈ lw_all := lw_g (lw_at lw_m2 141 rfl) rfl
theorem q458 : (Jvm.Cond.methodLink "java/util/Arrays" (304 : Nat) ({ cls := "java/lang/Math", name := "min", desc := "(II)I" } : Jvm.MethodName)) ∈ lw_all := lw_g (lw_at lw_m2 142 rfl) rfl
theorem q461 : (Jvm.Cond.methodLink "java/util/Arrays" (150 : Nat) ({ cls := "java/lang/System", name := "arraycopy", desc := "(Ljava/lang/Object;ILjava/lang/Object;II)V" } : Jvm.MethodName)) ∈ lw_all := lw_g (lw_at lw_m2 145 rfl) rfl
theorem q591 : (Jvm.Cond.static ({ cls := "java/util/Arrays", name := "copyOfRange", desc := "([BII)[B" } : Jvm.MethodName)) ∈ lw_all := lw_g (lw_at lw_m3 35 rfl) rfl
theorem q592 : (Jvm.Cond.code ({ cls := "java/util/Arrays", name := "copyOfRange", desc := "([BII)[B" } : Jvm.MethodName) prog_60_method_132_code (3 : Nat) (Option.some (Jvm.ClassFile.FieldType.array Jvm.ClassFile.FieldType.byte))) ∈ lw_all := lw_g (lw_at lw_m3 36 rfl) rfl
theorem q593 : (Jvm.Cond.methodLink "java/util/Arrays" (339 : Nat) ({ cls := "java/util/Arrays", name := "copyOfRangeByte", desc := "([BII)[B" } : Jvm.MethodName)) ∈ lw_all := lw_g (lw_at lw_m3 37 rfl) rfl
theorem q594 : (Jvm.Cond.static ({ cls := "java/util/Arrays", name := "copyOfRangeByte", desc := "([BII)[B" } : Jvm.MethodName)) ∈ lw_all := lw_g (lw_at lw_m3 38 rfl) rfl
theorem q595 : (Jvm.Cond.code ({ cls := "java/util/Arrays", name := "copyOfRangeByte", desc := "([BII)[B" } : Jvm.MethodName) prog_60_method_133_code (5 : Nat) (Option.some (Jvm.ClassFile.FieldType.array Jvm.ClassFile.FieldType.byte))) ∈ lw_all := lw_g (lw_at lw_m3 39 rfl) rfl
theorem q596 : (Jvm.Cond.methodLink "java/util/Arrays" (343 : Nat) ({ cls := "java/util/Arrays", name := "checkLength", desc := "(II)V" } : Jvm.MethodName)) ∈ lw_all := lw_g (lw_at lw_m3 40 rfl) rfl
theorem q597 : (Jvm.Cond.static ({ cls := "java/util/Arrays", name := "checkLength", desc := "(II)V" } : Jvm.MethodName)) ∈ lw_all := lw_g (lw_at lw_m3 41 rfl) rfl
theorem q598 : (Jvm.Cond.code ({ cls := "java/util/Arrays", name := "checkLength", desc := "(II)V" } : Jvm.MethodName) prog_60_method_131_code (2 : Nat) (Option.none : Option Jvm.ClassFile.FieldType)) ∈ lw_all := lw_g (lw_at lw_m3 42 rfl) rfl
theorem q599 : (Jvm.Cond.classLink "java/util/Arrays" (43 : Nat) "java/lang/IllegalArgumentException") ∈ lw_all := lw_g (lw_at lw_m3 43 rfl) rfl
theorem q608 : (Jvm.Cond.classLink "java/util/Arrays" (45 : Nat) "java/lang/StringBuilder") ∈ lw_all := lw_g (lw_at lw_m3 52 rfl) rfl
theorem q609 : (Jvm.Cond.methodLink "java/util/Arrays" (47 : Nat) ({ cls := "java/lang/StringBuilder", name := "<init>", desc := "()V" } : Jvm.MethodName)) ∈ lw_all := lw_g (lw_at lw_m3 53 rfl) rfl
theorem q610 : (Jvm.Cond.methodLink "java/util/Arrays" (54 : Nat) ({ cls := "java/lang/StringBuilder", name := "append", desc := "(I)Ljava/lang/StringBuilder;" } : Jvm.MethodName)) ∈ lw_all := lw_g (lw_at lw_m3 54 rfl) rfl
theorem q611 : (Jvm.Cond.stringRef "java/util/Arrays" (337 : Nat) " > ") ∈ lw_tbl := lw_at lw_m3 55 rfl
theorem q612 : (Jvm.Cond.methodLink "java/util/Arrays" (50 : Nat) ({ cls := "java/lang/StringBuilder", name := "append", desc := "(Ljava/lang/String;)Ljava/lang/StringBuilder;" } : Jvm.MethodName)) ∈ lw_all := lw_g (lw_at lw_m3 56 rfl) rfl
theorem q613 : (Jvm.Cond.methodLink "java/util/Arrays" (61 : Nat) ({ cls := "java/lang/StringBuilder", name := "toString", desc := "()Ljava/lang/String;" } : Jvm.MethodName)) ∈ lw_all := lw_g (lw_at lw_m3 57 rfl) rfl
theorem q614 : (Jvm.Cond.methodLink "java/util/Arrays" (65 : Nat) ({ cls := "java/lang/IllegalArgumentException", name := "<init>", desc := "(Ljava/lang/String;)V" } : Jvm.MethodName)) ∈ lw_all := lw_g (lw_at lw_m3 58 rfl) rfl
theorem q728 : (Jvm.Cond.static ({ cls := "java/util/Arrays", name := "copyOf", desc := "([Ljava/lang/Object;I)[Ljava/lang/Object;" } : Jvm.MethodName)) ∈ lw_all := lw_g (lw_at lw_m3 172 rfl) rfl
theorem q729 : (Jvm.Cond.code ({ cls := "java/util/Arrays", name := "copyOf", desc := "([Ljava/lang/Object;I)[Ljava/lang/Object;" } : Jvm.MethodName) prog_60_method_119_code (2 : Nat) (Option.some (Jvm.ClassFile.FieldType.array (Jvm.ClassFile.FieldType.object "java/lang/Object")))) ∈ lw_all := lw_g (lw_at lw_m3 173 rfl) rfl
theorem q730 : (Jvm.Cond.methodLink "java/util/Arrays" (86 : Nat) ({ cls := "java/lang/Object", name := "getClass", desc := "()Ljava/lang/Class;" } : Jvm.MethodName)) ∈ lw_all := lw_g (lw_at lw_m3 174 rfl) rfl
theorem q784 : (Jvm.Cond.methodLink "java/util/Arrays" (300 : Nat) ({ cls := "java/util/Arrays", name := "copyOf", desc := "([Ljava/lang/Object;ILjava/lang/Class;)[Ljava/lang/Object;" } : Jvm.MethodName)) ∈ lw_all := lw_g (lw_at lw_m3 228 rfl) rfl
theorem q785 : (Jvm.Cond.static ({ cls := "java/util/Arrays", name := "copyOf", desc := "([Ljava/lang/Object;ILjava/lang/Class;)[Ljava/lang/Object;" } : Jvm.MethodName)) ∈ lw_all := lw_g (lw_at lw_m3 229 rfl) rfl
theorem q786 : (Jvm.Cond.code ({ cls := "java/util/Arrays", name := "copyOf", desc := "([Ljava/lang/Object;ILjava/lang/Class;)[Ljava/lang/Object;" } : Jvm.MethodName) prog_60_method_120_code (4 : Nat) (Option.some (Jvm.ClassFile.FieldType.array (Jvm.ClassFile.FieldType.object "java/lang/Object")))) ∈ lw_all := lw_g (lw_at lw_m3 230 rfl) rfl
theorem q787 : (Jvm.Cond.classLink "java/util/Arrays" (110 : Nat) "[Ljava/lang/Object;") ∈ lw_all := lw_g (lw_at lw_m3 231 rfl) rfl
theorem q789 : (Jvm.Cond.classLink "java/util/Arrays" (2 : Nat) "java/lang/Object") ∈ lw_all := lw_g (lw_at lw_m3 233 rfl) rfl
theorem q1070 : (Jvm.Cond.static ({ cls := "java/util/Arrays", name := "copyOf", desc := "([JI)[J" } : Jvm.MethodName)) ∈ lw_all := lw_g (lw_at lw_m5 34 rfl) rfl
theorem q1071 : (Jvm.Cond.code ({ cls := "java/util/Arrays", name := "copyOf", desc := "([JI)[J" } : Jvm.MethodName) prog_60_method_124_code (3 : Nat) (Option.some (Jvm.ClassFile.FieldType.array Jvm.ClassFile.FieldType.long))) ∈ lw_all := lw_g (lw_at lw_m5 35 rfl) rfl
theorem q1072 : (Jvm.Cond.methodLink "java/util/Arrays" (319 : Nat) ({ cls := "[J", name := "clone", desc := "()Ljava/lang/Object;" } : Jvm.MethodName)) ∈ lw_all := lw_g (lw_at lw_m5 36 rfl) rfl
theorem q1076 : (Jvm.Cond.classLink "java/util/Arrays" (320 : Nat) "[J") ∈ lw_all := lw_g (lw_at lw_m5 40 rfl) rfl
/-! java/lang/IndexOutOfBoundsException -/
def RJ14 : String := "java/lang/IndexOutOfBoundsException"
def TJ14 : u_T := fun k => match k with
  | 0 => ("java/lang/Throwable", "cause", "Ljava/lang/Throwable;", false)
  | 1 => ("java/lang/Throwable", "stackTrace", "[Ljava/lang/StackTraceElement;", false)
  | 2 => ("java/lang/Throwable", "suppressedExceptions", "Ljava/util/List;", false)
  | 3 => ("java/lang/Throwable", "detailMessage", "Ljava/lang/String;", false)
  | 4 => ("java/lang/Throwable", "backtrace", "Ljava/lang/Object;", false)
  | _ => ("java/lang/Throwable", "depth", "I", false)
def tyJ14 : Nat → FieldType := fun k => match k with
  | 0 => .object "java/lang/Throwable"
  | 1 => .array (.object "java/lang/StackTraceElement")
  | 2 => .object "java/util/List"
  | 3 => .object "java/lang/String"
  | 4 => .object "java/lang/Object"
  | _ => .int
abbrev wsJ140 : List Cond := u_ws RJ14 TJ14 6
theorem nmJ14 : ∀ a, a < 6 → ∀ b, b < 6 → a ≠ b → (TJ14 a).2.1 ≠ (TJ14 b).2.1 := by decide +kernel
theorem tyJ14_ok : ∀ k, k < 6 → parseFieldDescriptor (TJ14 k).2.2.1 = some (tyJ14 k) := by decide +kernel
abbrev cJ14_init : ByteArray := prog_36_method_2_code
def yJ14_init : MethodName := ⟨RJ14, "<init>", "(Ljava/lang/String;)V"⟩
def dkwJ14_init_0 : List UInt8 := [42, 43, 183, 0, 7, 177]
abbrev dktJ14_init_0 : List UInt8 := dkwJ14_init_0 ++ []
theorem dksJ14_init_0 : cJ14_init.data.toList.drop 0 = dktJ14_init_0 := by decide +kernel
theorem dJ14_init_0 : decode cJ14_init 0 = .ok (.aload_n 0, 1) := dk_42 (dk_at dksJ14_init_0 0 rfl rfl)
theorem dJ14_init_1 : decode cJ14_init 1 = .ok (.aload_n 1, 1) := dk_43 (dk_at dksJ14_init_0 1 rfl rfl)
theorem dJ14_init_2 : decode cJ14_init 2 = .ok (.invokespecial 7, 3) := dk_183 0 7 (dk_at dksJ14_init_0 2 rfl rfl)
theorem dJ14_init_5 : decode cJ14_init 5 = .ok (.return_, 1) := dk_177 (dk_at dksJ14_init_0 5 rfl rfl)
abbrev cJ14_init_2 : ByteArray := prog_36_method_1_code
def yJ14_init_2 : MethodName := ⟨RJ14, "<init>", "()V"⟩
theorem dJ14_init_2_0 : decode cJ14_init_2 0 = .ok (.aload_n 0, 1) := by decide +kernel
theorem dJ14_init_2_1 : decode cJ14_init_2 1 = .ok (.invokespecial 1, 3) := by decide +kernel
theorem dJ14_init_2_4 : decode cJ14_init_2 4 = .ok (.return_, 1) := by decide +kernel
theorem q97 : (Jvm.Cond.initialized "java/lang/IndexOutOfBoundsException") ∈ lw_all := lw_g (lw_at lw_m1 21 rfl) rfl
theorem q340 : (Jvm.Cond.instantiable "java/lang/IndexOutOfBoundsException" (6 : Nat)) ∈ lw_all := lw_g (lw_at lw_m2 24 rfl) rfl
theorem q341 : (Jvm.Cond.castable "java/lang/IndexOutOfBoundsException" "java/lang/IndexOutOfBoundsException") ∈ lw_tbl := lw_at lw_m2 25 rfl
theorem q348 : (Jvm.Cond.selects "java/lang/IndexOutOfBoundsException" ({ cls := "java/lang/Throwable", name := "fillInStackTrace", desc := "(I)Ljava/lang/Throwable;" } : Jvm.MethodName) ({ cls := "java/lang/Throwable", name := "fillInStackTrace", desc := "(I)Ljava/lang/Throwable;" } : Jvm.MethodName)) ∈ lw_all := lw_g (lw_at lw_m2 32 rfl) rfl
theorem q349 : (Jvm.Cond.selects "java/lang/IndexOutOfBoundsException" ({ cls := "java/lang/Throwable", name := "fillInStackTrace", desc := "()Ljava/lang/Throwable;" } : Jvm.MethodName) ({ cls := "java/lang/Throwable", name := "fillInStackTrace", desc := "()Ljava/lang/Throwable;" } : Jvm.MethodName)) ∈ lw_all := lw_g (lw_at lw_m2 33 rfl) rfl
theorem q350 : (Jvm.Cond.lays "java/lang/IndexOutOfBoundsException" "java/lang/Throwable" "cause" "Ljava/lang/Throwable;") ∈ lw_all := lw_g (lw_at lw_m2 34 rfl) rfl
theorem q352 : (Jvm.Cond.lays "java/lang/IndexOutOfBoundsException" "java/lang/Throwable" "stackTrace" "[Ljava/lang/StackTraceElement;") ∈ lw_all := lw_g (lw_at lw_m2 36 rfl) rfl
theorem q354 : (Jvm.Cond.lays "java/lang/IndexOutOfBoundsException" "java/lang/Throwable" "suppressedExceptions" "Ljava/util/List;") ∈ lw_all := lw_g (lw_at lw_m2 38 rfl) rfl
theorem q356 : (Jvm.Cond.lays "java/lang/IndexOutOfBoundsException" "java/lang/Throwable" "detailMessage" "Ljava/lang/String;") ∈ lw_all := lw_g (lw_at lw_m2 40 rfl) rfl
theorem q358 : (Jvm.Cond.lays "java/lang/IndexOutOfBoundsException" "java/lang/Throwable" "backtrace" "Ljava/lang/Object;") ∈ lw_all := lw_g (lw_at lw_m2 42 rfl) rfl
theorem q666 : (Jvm.Cond.instanceMethod ({ cls := "java/lang/IndexOutOfBoundsException", name := "<init>", desc := "(Ljava/lang/String;)V" } : Jvm.MethodName)) ∈ lw_all := lw_g (lw_at lw_m3 110 rfl) rfl
theorem q667 : (Jvm.Cond.code ({ cls := "java/lang/IndexOutOfBoundsException", name := "<init>", desc := "(Ljava/lang/String;)V" } : Jvm.MethodName) prog_36_method_2_code (2 : Nat) (Option.none : Option Jvm.ClassFile.FieldType)) ∈ lw_all := lw_g (lw_at lw_m3 111 rfl) rfl
theorem q668 : (Jvm.Cond.methodLink "java/lang/IndexOutOfBoundsException" (7 : Nat) ({ cls := "java/lang/RuntimeException", name := "<init>", desc := "(Ljava/lang/String;)V" } : Jvm.MethodName)) ∈ lw_all := lw_g (lw_at lw_m3 112 rfl) rfl
theorem q669 : (Jvm.Cond.lays "java/lang/IndexOutOfBoundsException" "java/lang/Throwable" "depth" "I") ∈ lw_all := lw_g (lw_at lw_m3 113 rfl) rfl
theorem q670 : (Jvm.Cond.superclass "java/lang/IndexOutOfBoundsException" "java/lang/RuntimeException") ∈ lw_all := lw_g (lw_at lw_m3 114 rfl) rfl
theorem q758 : (Jvm.Cond.selects "java/lang/IndexOutOfBoundsException" ({ cls := "java/lang/Object", name := "getClass", desc := "()Ljava/lang/Class;" } : Jvm.MethodName) ({ cls := "java/lang/Object", name := "getClass", desc := "()Ljava/lang/Class;" } : Jvm.MethodName)) ∈ lw_all := lw_g (lw_at lw_m3 202 rfl) rfl
theorem q1290 : (Jvm.Cond.selects "java/lang/IndexOutOfBoundsException" ({ cls := "java/lang/Object", name := "hashCode", desc := "()I" } : Jvm.MethodName) ({ cls := "java/lang/Object", name := "hashCode", desc := "()I" } : Jvm.MethodName)) ∈ lw_all := lw_g (lw_at lw_m6 14 rfl) rfl
theorem q1391 : (Jvm.Cond.selects "java/lang/IndexOutOfBoundsException" ({ cls := "java/lang/Object", name := "equals", desc := "(Ljava/lang/Object;)Z" } : Jvm.MethodName) ({ cls := "java/lang/Object", name := "equals", desc := "(Ljava/lang/Object;)Z" } : Jvm.MethodName)) ∈ lw_all := lw_g (lw_at lw_m6 115 rfl) rfl
theorem q1954 : (Jvm.Cond.declares ({ cls := "java/lang/IndexOutOfBoundsException", name := "<init>", desc := "()V" } : Jvm.MethodName)) ∈ lw_tbl := lw_at lw_m8 198 rfl
theorem q1955 : (Jvm.Cond.declares ({ cls := "java/lang/IndexOutOfBoundsException", name := "<init>", desc := "(Ljava/lang/String;)V" } : Jvm.MethodName)) ∈ lw_tbl := lw_at lw_m8 199 rfl
theorem q1973 : (Jvm.Cond.instanceMethod ({ cls := "java/lang/IndexOutOfBoundsException", name := "<init>", desc := "()V" } : Jvm.MethodName)) ∈ lw_all := lw_g (lw_at lw_m8 217 rfl) rfl
theorem q1974 : (Jvm.Cond.code ({ cls := "java/lang/IndexOutOfBoundsException", name := "<init>", desc := "()V" } : Jvm.MethodName) prog_36_method_1_code (1 : Nat) (Option.none : Option Jvm.ClassFile.FieldType)) ∈ lw_all := lw_g (lw_at lw_m8 218 rfl) rfl
theorem q1975 : (Jvm.Cond.methodLink "java/lang/IndexOutOfBoundsException" (1 : Nat) ({ cls := "java/lang/RuntimeException", name := "<init>", desc := "()V" } : Jvm.MethodName)) ∈ lw_all := lw_g (lw_at lw_m8 219 rfl) rfl
theorem q3689 : (Jvm.Cond.castable "java/lang/IndexOutOfBoundsException" "java/lang/Object") ∈ lw_tbl := lw_at lw_m16 13 rfl
theorem in_J14 : ∀ w ∈ wsJ140, w ∈ lw_all := lw_in wsJ140 [350, 352, 354, 356, 358, 669] (by decide +kernel) (by decide +kernel)
/-! java/lang/ArrayIndexOutOfBoundsException -/
def RJ15 : String := "java/lang/ArrayIndexOutOfBoundsException"
def TJ15 : u_T := fun k => match k with
  | 0 => ("java/lang/Throwable", "backtrace", "Ljava/lang/Object;", false)
  | 1 => ("java/lang/Throwable", "detailMessage", "Ljava/lang/String;", false)
  | 2 => ("java/lang/Throwable", "cause", "Ljava/lang/Throwable;", false)
  | 3 => ("java/lang/Throwable", "stackTrace", "[Ljava/lang/StackTraceElement;", false)
  | 4 => ("java/lang/Throwable", "depth", "I", false)
  | _ => ("java/lang/Throwable", "suppressedExceptions", "Ljava/util/List;", false)
def tyJ15 : Nat → FieldType := fun k => match k with
  | 0 => .object "java/lang/Object"
  | 1 => .object "java/lang/String"
  | 2 => .object "java/lang/Throwable"
  | 3 => .array (.object "java/lang/StackTraceElement")
  | 4 => .int
  | _ => .object "java/util/List"
abbrev wsJ150 : List Cond := u_ws RJ15 TJ15 6
theorem nmJ15 : ∀ a, a < 6 → ∀ b, b < 6 → a ≠ b → (TJ15 a).2.1 ≠ (TJ15 b).2.1 := by decide +kernel
theorem tyJ15_ok : ∀ k, k < 6 → parseFieldDescriptor (TJ15 k).2.2.1 = some (tyJ15 k) := by decide +kernel
abbrev cJ15_init : ByteArray := prog_28_method_2_code
def yJ15_init : MethodName := ⟨RJ15, "<init>", "(Ljava/lang/String;)V"⟩
def dkwJ15_init_0 : List UInt8 := [42, 43, 183, 0, 7, 177]
abbrev dktJ15_init_0 : List UInt8 := dkwJ15_init_0 ++ []
theorem dksJ15_init_0 : cJ15_init.data.toList.drop 0 = dktJ15_init_0 := by decide +kernel
theorem dJ15_init_0 : decode cJ15_init 0 = .ok (.aload_n 0, 1) := dk_42 (dk_at dksJ15_init_0 0 rfl rfl)
theorem dJ15_init_1 : decode cJ15_init 1 = .ok (.aload_n 1, 1) := dk_43 (dk_at dksJ15_init_0 1 rfl rfl)
theorem dJ15_init_2 : decode cJ15_init 2 = .ok (.invokespecial 7, 3) := dk_183 0 7 (dk_at dksJ15_init_0 2 rfl rfl)
theorem dJ15_init_5 : decode cJ15_init 5 = .ok (.return_, 1) := dk_177 (dk_at dksJ15_init_0 5 rfl rfl)
theorem q98 : (Jvm.Cond.initialized "java/lang/ArrayIndexOutOfBoundsException") ∈ lw_all := lw_g (lw_at lw_m1 22 rfl) rfl
theorem q373 : (Jvm.Cond.selects "java/lang/ArrayIndexOutOfBoundsException" ({ cls := "java/lang/Throwable", name := "fillInStackTrace", desc := "()Ljava/lang/Throwable;" } : Jvm.MethodName) ({ cls := "java/lang/Throwable", name := "fillInStackTrace", desc := "()Ljava/lang/Throwable;" } : Jvm.MethodName)) ∈ lw_all := lw_g (lw_at lw_m2 57 rfl) rfl
theorem q755 : (Jvm.Cond.selects "java/lang/ArrayIndexOutOfBoundsException" ({ cls := "java/lang/Object", name := "getClass", desc := "()Ljava/lang/Class;" } : Jvm.MethodName) ({ cls := "java/lang/Object", name := "getClass", desc := "()Ljava/lang/Class;" } : Jvm.MethodName)) ∈ lw_all := lw_g (lw_at lw_m3 199 rfl) rfl
theorem q1287 : (Jvm.Cond.selects "java/lang/ArrayIndexOutOfBoundsException" ({ cls := "java/lang/Object", name := "hashCode", desc := "()I" } : Jvm.MethodName) ({ cls := "java/lang/Object", name := "hashCode", desc := "()I" } : Jvm.MethodName)) ∈ lw_all := lw_g (lw_at lw_m6 11 rfl) rfl
theorem q1388 : (Jvm.Cond.selects "java/lang/ArrayIndexOutOfBoundsException" ({ cls := "java/lang/Object", name := "equals", desc := "(Ljava/lang/Object;)Z" } : Jvm.MethodName) ({ cls := "java/lang/Object", name := "equals", desc := "(Ljava/lang/Object;)Z" } : Jvm.MethodName)) ∈ lw_all := lw_g (lw_at lw_m6 112 rfl) rfl
theorem q1942 : (Jvm.Cond.instantiable "java/lang/ArrayIndexOutOfBoundsException" (6 : Nat)) ∈ lw_all := lw_g (lw_at lw_m8 186 rfl) rfl
theorem q1943 : (Jvm.Cond.instanceMethod ({ cls := "java/lang/ArrayIndexOutOfBoundsException", name := "<init>", desc := "(Ljava/lang/String;)V" } : Jvm.MethodName)) ∈ lw_all := lw_g (lw_at lw_m8 187 rfl) rfl
theorem q1944 : (Jvm.Cond.code ({ cls := "java/lang/ArrayIndexOutOfBoundsException", name := "<init>", desc := "(Ljava/lang/String;)V" } : Jvm.MethodName) prog_28_method_2_code (2 : Nat) (Option.none : Option Jvm.ClassFile.FieldType)) ∈ lw_all := lw_g (lw_at lw_m8 188 rfl) rfl
theorem q1945 : (Jvm.Cond.methodLink "java/lang/ArrayIndexOutOfBoundsException" (7 : Nat) ({ cls := "java/lang/IndexOutOfBoundsException", name := "<init>", desc := "(Ljava/lang/String;)V" } : Jvm.MethodName)) ∈ lw_all := lw_g (lw_at lw_m8 189 rfl) rfl
theorem q1946 : (Jvm.Cond.lays "java/lang/ArrayIndexOutOfBoundsException" "java/lang/Throwable" "backtrace" "Ljava/lang/Object;") ∈ lw_all := lw_g (lw_at lw_m8 190 rfl) rfl
theorem q1947 : (Jvm.Cond.lays "java/lang/ArrayIndexOutOfBoundsException" "java/lang/Throwable" "detailMessage" "Ljava/lang/String;") ∈ lw_all := lw_g (lw_at lw_m8 191 rfl) rfl
theorem q1948 : (Jvm.Cond.lays "java/lang/ArrayIndexOutOfBoundsException" "java/lang/Throwable" "cause" "Ljava/lang/Throwable;") ∈ lw_all := lw_g (lw_at lw_m8 192 rfl) rfl
theorem q1949 : (Jvm.Cond.lays "java/lang/ArrayIndexOutOfBoundsException" "java/lang/Throwable" "stackTrace" "[Ljava/lang/StackTraceElement;") ∈ lw_all := lw_g (lw_at lw_m8 193 rfl) rfl
theorem q1950 : (Jvm.Cond.lays "java/lang/ArrayIndexOutOfBoundsException" "java/lang/Throwable" "depth" "I") ∈ lw_all := lw_g (lw_at lw_m8 194 rfl) rfl
theorem q1951 : (Jvm.Cond.lays "java/lang/ArrayIndexOutOfBoundsException" "java/lang/Throwable" "suppressedExceptions" "Ljava/util/List;") ∈ lw_all := lw_g (lw_at lw_m8 195 rfl) rfl
theorem q1952 : (Jvm.Cond.superclass "java/lang/ArrayIndexOutOfBoundsException" "java/lang/IndexOutOfBoundsException") ∈ lw_all := lw_g (lw_at lw_m8 196 rfl) rfl
theorem q1953 : (Jvm.Cond.castable "java/lang/ArrayIndexOutOfBoundsException" "java/lang/ArrayIndexOutOfBoundsException") ∈ lw_tbl := lw_at lw_m8 197 rfl
theorem q1956 : (Jvm.Cond.selects "java/lang/ArrayIndexOutOfBoundsException" ({ cls := "java/lang/Throwable", name := "fillInStackTrace", desc := "(I)Ljava/lang/Throwable;" } : Jvm.MethodName) ({ cls := "java/lang/Throwable", name := "fillInStackTrace", desc := "(I)Ljava/lang/Throwable;" } : Jvm.MethodName)) ∈ lw_all := lw_g (lw_at lw_m8 200 rfl) rfl
theorem q3672 : (Jvm.Cond.castable "java/lang/ArrayIndexOutOfBoundsException" "java/lang/IndexOutOfBoundsException") ∈ lw_tbl := lw_at lw_m15 236 rfl
theorem q3688 : (Jvm.Cond.castable "java/lang/ArrayIndexOutOfBoundsException" "java/lang/Object") ∈ lw_tbl := lw_at lw_m16 12 rfl
theorem in_J15 : ∀ w ∈ wsJ150, w ∈ lw_all := lw_in wsJ150 [1946, 1947, 1948, 1949, 1950, 1951] (by decide +kernel) (by decide +kernel)
